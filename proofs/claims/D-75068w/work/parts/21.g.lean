/-! walks by program: by the generator -/
set_option maxRecDepth 100000
section
variable {p : Program} {l : Launch} {e : Env} {R : Room} {s : State} {m : MethodId} {args : Array Value} {below : List Frame} {meth : Method} {c : Code} {D : zD} {B0 : Nat} {E : zE}

def f_X6_status_b37 (E : zE) (s0 : Int32) (h : zH) : Option (Int32 × zH) :=
  some (s0, h)
theorem w_X6_status_b37 (C0 : zCx p l e R s m args below meth c D B0 2 "FranchiseLedgerModel" cX6_status E 3 106 (Option.some Jvm.ClassFile.FieldType.int) "status") {r : Int32} {h' : zH} {s0 : Int32} {h : zH} (hf : f_X6_status_b37 E s0 h = some (r, h')) : zW p l e R s m args below meth c D B0 2 (zEnd D B0 R below args s (zoI r) h') h 37 [] [.int s0] := by
  unfold f_X6_status_b37 at hf
  refine zretW hf ?_
  exact zr_iret C0 (ty := .int) rfl rfl dX6_status_37 rfl
def f_X6_status_b19 (E : zE) (p0 : Nat) (p1 : Int32) (s0 : Nat) (s1 : Int32) (h : zH) : Option (Int32 × zH) :=
  (cko h s0 1).bind fun _ =>
  bnd2 (f_X6_throwsIf E s0 s1 (1 : Int32) h) fun x4 h2 =>
  if x4 = 0 then (
    (cko h2 p0 1).bind fun _ =>
    bnd2 (f_X6_of E p0 p1 (3 : Int32) h2) fun x9 h7 =>
    f_X6_status_b37 E (x9.toInt32) h7
  ) else (
    f_X6_status_b37 E (0 : Int32) h2
  )
theorem w_X6_status_b19 (C0 : zCx p l e R s m args below meth c D B0 2 "FranchiseLedgerModel" cX6_status E 3 106 (Option.some Jvm.ClassFile.FieldType.int) "status") {r : Int32} {h' : zH} {p0 : Nat} {p1 : Int32} {s0 : Nat} {s1 : Int32} {h : zH} (hf : f_X6_status_b19 E p0 p1 s0 s1 h = some (r, h')) : zW p l e R s m args below meth c D B0 2 (zEnd D B0 R below args s (zoI r) h') h 19 [(0, .ref p0), (1, .int p1)] [.int s1, .ref s0] := by
  unfold f_X6_status_b19 at hf
  refine zr_iconst C0 (v := 1) dX6_status_19 (by decide) ?_
  obtain ⟨_, e1, hf⟩ := zbind hf
  obtain ⟨x4, h2, e3, hf⟩ := zbind2 hf
  refine zr_callV_r C0 cv_X6_81_X6 rfl (zcko e1) (m_X6_throwsIf C0.2.2.2.2.2.2.1 e3) (by decide) (by decide) rfl rfl (Nat.le_of_ble_eq_true rfl) dX6_status_20 rfl ?_
  refine zr_if_eq C0 (tgt := 30) dX6_status_23 (by decide) (fun c5 => ?_) (fun c5 => ?_)
  · have hf := zif_t c5 hf
    refine zr_aload_n C0 dX6_status_30 rfl 0 rfl ?_
    refine zr_iload_n C0 dX6_status_31 rfl 1 rfl ?_
    refine zr_iconst C0 (v := 3) dX6_status_32 (by decide) ?_
    obtain ⟨_, e6, hf⟩ := zbind hf
    obtain ⟨x9, h7, e8, hf⟩ := zbind2 hf
    refine zr_callV_r C0 cv_X6_63_X6 rfl (zcko e6) (m_X6_of C0.2.2.2.2.2.2.1 e8) (by decide) (by decide) rfl rfl (Nat.le_of_ble_eq_true rfl) dX6_status_33 rfl ?_
    refine zr_l2i C0 dX6_status_36 ?_
    refine zr_sub [] rfl ?_
    exact w_X6_status_b37 C0 hf
  · have hf := zif_f c5 hf
    refine zr_iconst C0 (v := 0) dX6_status_26 (by decide) ?_
    refine zr_goto C0 (tgt := 37) dX6_status_27 (by decide) ?_
    refine zr_sub [] rfl ?_
    exact w_X6_status_b37 C0 hf
def f_X6_status_b0 (E : zE) (p0 : Nat) (p1 : Int32) (h : zH) : Option (Int32 × zH) :=
  (pF h p0 1 2 (.int (0 : Int32))).bind fun h1 =>
  (cko h1 p0 1).bind fun _ =>
  bnd2 (f_X6_isFranchisee E p0 p1 h1) fun x6 h4 =>
  if x6 = 0 then (
    f_X6_status_b19 E p0 p1 p0 (1 : Int32) h4
  ) else (
    f_X6_status_b19 E p0 p1 p0 (0 : Int32) h4
  )
theorem w_X6_status_b0 (C0 : zCx p l e R s m args below meth c D B0 2 "FranchiseLedgerModel" cX6_status E 3 106 (Option.some Jvm.ClassFile.FieldType.int) "status") {r : Int32} {h' : zH} {p0 : Nat} {p1 : Int32} {h : zH} (hf : f_X6_status_b0 E p0 p1 h = some (r, h')) : zW p l e R s m args below meth c D B0 2 (zEnd D B0 R below args s (zoI r) h') h 0 [(0, .ref p0), (1, .int p1)] [] := by
  unfold f_X6_status_b0 at hf
  refine zr_aload_n C0 dX6_status_0 rfl 0 rfl ?_
  refine zr_iconst C0 (v := 0) dX6_status_1 (by decide) ?_
  obtain ⟨h1, e2, hf⟩ := zbind hf
  refine zr_put C0 pl_X6_50_X6 dX6_status_2 (fun h => by cases h) rfl rfl e2 ?_
  refine zr_aload_n C0 dX6_status_5 rfl 0 rfl ?_
  refine zr_aload_n C0 dX6_status_6 rfl 0 rfl ?_
  refine zr_iload_n C0 dX6_status_7 rfl 1 rfl ?_
  obtain ⟨_, e3, hf⟩ := zbind hf
  obtain ⟨x6, h4, e5, hf⟩ := zbind2 hf
  refine zr_callV_r C0 cv_X6_85_X6 rfl (zcko e3) (m_X6_isFranchisee C0.2.2.2.2.2.2.1 e5) (by decide) (by decide) rfl rfl (Nat.le_of_ble_eq_true rfl) dX6_status_8 rfl ?_
  refine zr_if_ne C0 (tgt := 18) dX6_status_11 (by decide) (fun c7 => ?_) (fun c7 => ?_)
  · have hf := zif_f c7 hf
    refine zr_iconst C0 (v := 0) dX6_status_18 (by decide) ?_
    exact w_X6_status_b19 C0 hf
  · have hf := zif_t c7 hf
    refine zr_iconst C0 (v := 1) dX6_status_14 (by decide) ?_
    refine zr_goto C0 (tgt := 19) dX6_status_15 (by decide) ?_
    exact w_X6_status_b19 C0 hf
def f_X6_status (E : zE) (p0 : Nat) (p1 : Int32) (h : zH) : Option (Int32 × zH) := f_X6_status_b0 E p0 p1 h
theorem m_X6_status {l : Launch} (hst : l.stackTraces = false) {D : zD} {B0 : Nat} {E : zE} {p0 : Nat} {p1 : Int32} {h h' : zH} {r : Int32} (hf : f_X6_status E p0 p1 h = some (r, h')) : zMet l yX6_status (ws_ yX6_status cX6_status 2 (Option.some Jvm.ClassFile.FieldType.int)) 3 106 D B0 E [.ref p0, .int p1] h (zoI r) h' := by
  unfold f_X6_status at hf
  refine zMet_of hst (by decide +kernel) rfl rfl (Nat.le_of_ble_eq_true rfl) (fun p e R s m below meth c C0 hno => ?_)
  show zW _ _ _ _ _ _ _ _ _ _ _ _ _ _ _ _ [(0, .ref p0), (1, .int p1)] []
  exact w_X6_status_b0 C0 hf
def f_X6_allContributions_l4 (E : zE) : Nat → Nat → Int64 → Int32 → zH → Option (Int64 × zH)
  | 0, _, _, _, _ => none
  | n + 1, p0, p1, p3, h =>
    (gR h p0 1 0).bind fun x1 =>
    (dL h x1 (2 : Int32)).bind fun x3 =>
    if x3 ≤ (p3.toInt64) then (
      some (p1, h)
    ) else (
      (cko h p0 1).bind fun _ =>
      bnd2 (f_X6_of E p0 p3 (7 : Int32) h) fun x9 h7 =>
      f_X6_allContributions_l4 E n p0 (p1 + x9) (p3 + 1) h7
    )
theorem w_X6_allContributions_l4 (C0 : zCx p l e R s m args below meth c D B0 4 "FranchiseLedgerModel" cX6_allContributions E 2 82 (Option.some Jvm.ClassFile.FieldType.long) "allContributions") {r : Int64} {h' : zH} : ∀ (n : Nat) (p0 : Nat) (p1 : Int64) (p3 : Int32) (h : zH), f_X6_allContributions_l4 E n p0 p1 p3 h = some (r, h') → zW p l e R s m args below meth c D B0 4 (zEnd D B0 R below args s (zoL r) h') h 4 [(0, .ref p0), (1, .long p1), (3, .int p3)] [] := by
  intro n
  induction n with
  | zero =>
    intro p0 p1 p3 h hf
    unfold f_X6_allContributions_l4 at hf
    cases hf
  | succ n ih =>
    intro p0 p1 p3 h hf
    unfold f_X6_allContributions_l4 at hf
    refine zr_iload_n C0 dX6_allContributions_4 rfl 2 rfl ?_
    refine zr_i2l C0 dX6_allContributions_5 ?_
    refine zr_aload_n C0 dX6_allContributions_6 rfl 0 rfl ?_
    obtain ⟨x1, e2, hf⟩ := zbind hf
    refine zr_get C0 fl_X6_9_X6 dX6_allContributions_7 (zgR e2) ?_
    refine zr_iconst C0 (v := 2) dX6_allContributions_10 (by decide) ?_
    obtain ⟨x3, e4, hf⟩ := zbind hf
    refine zr_lald C0 dX6_allContributions_11 e4 ?_
    refine zr_lcmp C0 dX6_allContributions_12 ?_
    refine zr_if_ge C0 (tgt := 32) dX6_allContributions_13 (by decide) (fun c5 => ?_) (fun c5 => ?_)
    · have hf := zif_t (zl_ge.mp c5) hf
      refine zr_lload_n C0 dX6_allContributions_32 rfl 1 rfl ?_
      refine zretW hf ?_
      exact zr_lret C0 rfl dX6_allContributions_33 rfl
    · have hf := zif_f (zl_gen.mp c5) hf
      refine zr_lload_n C0 dX6_allContributions_16 rfl 1 rfl ?_
      refine zr_aload_n C0 dX6_allContributions_17 rfl 0 rfl ?_
      refine zr_iload_n C0 dX6_allContributions_18 rfl 2 rfl ?_
      refine zr_bipush C0 (v := 7) dX6_allContributions_19 (by decide) ?_
      obtain ⟨_, e6, hf⟩ := zbind hf
      obtain ⟨x9, h7, e8, hf⟩ := zbind2 hf
      refine zr_callV_r C0 cv_X6_63_X6 rfl (zcko e6) (m_X6_of C0.2.2.2.2.2.2.1 e8) (by decide) (by decide) rfl rfl (Nat.le_of_ble_eq_true rfl) dX6_allContributions_21 rfl ?_
      refine zr_ladd C0 dX6_allContributions_24 ?_
      refine zr_lstore_n (i := 1) (lv' := [(1, .long (p1 + x9)), (0, .ref p0), (3, .int p3)]) C0 dX6_allContributions_25 rfl (by decide) (by first | rfl | simp [zst1, zst2, zcat_rf]) ?_
      refine zr_iinc (lv' := [(3, .int (p3 + 1)), (1, .long (p1 + x9)), (0, .ref p0)]) C0 dX6_allContributions_26 2 rfl rfl (by decide) (by first | rfl | simp [zst1, zst2, zcat_rf]) ?_
      refine zr_goto C0 (tgt := 4) dX6_allContributions_29 (by decide) ?_
      refine zr_sub [2, 1, 0] rfl ?_
      exact ih _ _ _ _ hf
def f_X6_allContributions_b0 (E : zE) (p0 : Nat) (h : zH) : Option (Int64 × zH) :=
  f_X6_allContributions_l4 E E.1 p0 (0 : Int64) (0 : Int32) h
theorem w_X6_allContributions_b0 (C0 : zCx p l e R s m args below meth c D B0 4 "FranchiseLedgerModel" cX6_allContributions E 2 82 (Option.some Jvm.ClassFile.FieldType.long) "allContributions") {r : Int64} {h' : zH} {p0 : Nat} {h : zH} (hf : f_X6_allContributions_b0 E p0 h = some (r, h')) : zW p l e R s m args below meth c D B0 4 (zEnd D B0 R below args s (zoL r) h') h 0 [(0, .ref p0)] [] := by
  unfold f_X6_allContributions_b0 at hf
  refine zr_lconst C0 (v := 0) dX6_allContributions_0 (by decide) ?_
  refine zr_lstore_n (i := 1) (lv' := [(1, .long (0 : Int64)), (0, .ref p0)]) C0 dX6_allContributions_1 rfl (by decide) (by first | rfl | simp [zst1, zst2, zcat_rf]) ?_
  refine zr_iconst C0 (v := 0) dX6_allContributions_2 (by decide) ?_
  refine zr_istore_n (i := 3) (lv' := [(3, .int (0 : Int32)), (1, .long (0 : Int64)), (0, .ref p0)]) C0 dX6_allContributions_3 rfl (by decide) (by first | rfl | simp [zst1, zst2, zcat_rf]) ?_
  refine zr_sub [2, 1, 0] rfl ?_
  exact w_X6_allContributions_l4 C0 _ _ _ _ _ hf
def f_X6_allContributions (E : zE) (p0 : Nat) (h : zH) : Option (Int64 × zH) := f_X6_allContributions_b0 E p0 h
theorem m_X6_allContributions {l : Launch} (hst : l.stackTraces = false) {D : zD} {B0 : Nat} {E : zE} {p0 : Nat} {h h' : zH} {r : Int64} (hf : f_X6_allContributions E p0 h = some (r, h')) : zMet l yX6_allContributions (ws_ yX6_allContributions cX6_allContributions 4 (Option.some Jvm.ClassFile.FieldType.long)) 2 82 D B0 E [.ref p0] h (zoL r) h' := by
  unfold f_X6_allContributions at hf
  refine zMet_of hst (by decide +kernel) rfl rfl (Nat.le_of_ble_eq_true rfl) (fun p e R s m below meth c C0 hno => ?_)
  show zW _ _ _ _ _ _ _ _ _ _ _ _ _ _ _ _ [(0, .ref p0)] []
  exact w_X6_allContributions_b0 C0 hf
def f_X6_fund_b0 (E : zE) (p0 : Nat) (h : zH) : Option (Int64 × zH) :=
  (cko h p0 1).bind fun _ =>
  bnd2 (f_X6_allContributions E p0 h) fun x4 h2 =>
  (gR h2 p0 1 0).bind fun x5 =>
  (dL h2 x5 (11 : Int32)).bind fun x7 =>
  (gR h2 p0 1 0).bind fun x9 =>
  (dL h2 x9 (12 : Int32)).bind fun x11 =>
  (gR h2 p0 1 0).bind fun x13 =>
  (dL h2 x13 (13 : Int32)).bind fun x15 =>
  some ((((x4 - x7) - x11) - x15), h2)
theorem w_X6_fund_b0 (C0 : zCx p l e R s m args below meth c D B0 1 "FranchiseLedgerModel" cX6_fund E 3 105 (Option.some Jvm.ClassFile.FieldType.long) "fund") {r : Int64} {h' : zH} {p0 : Nat} {h : zH} (hf : f_X6_fund_b0 E p0 h = some (r, h')) : zW p l e R s m args below meth c D B0 1 (zEnd D B0 R below args s (zoL r) h') h 0 [(0, .ref p0)] [] := by
  unfold f_X6_fund_b0 at hf
  refine zr_aload_n C0 dX6_fund_0 rfl 0 rfl ?_
  obtain ⟨_, e1, hf⟩ := zbind hf
  obtain ⟨x4, h2, e3, hf⟩ := zbind2 hf
  refine zr_callV_r C0 cv_X6_249_X6 rfl (zcko e1) (m_X6_allContributions C0.2.2.2.2.2.2.1 e3) (by decide) (by decide) rfl rfl (Nat.le_of_ble_eq_true rfl) dX6_fund_1 rfl ?_
  refine zr_aload_n C0 dX6_fund_4 rfl 0 rfl ?_
  obtain ⟨x5, e6, hf⟩ := zbind hf
  refine zr_get C0 fl_X6_9_X6 dX6_fund_5 (zgR e6) ?_
  refine zr_bipush C0 (v := 11) dX6_fund_8 (by decide) ?_
  obtain ⟨x7, e8, hf⟩ := zbind hf
  refine zr_lald C0 dX6_fund_10 e8 ?_
  refine zr_lsub C0 dX6_fund_11 ?_
  refine zr_aload_n C0 dX6_fund_12 rfl 0 rfl ?_
  obtain ⟨x9, e10, hf⟩ := zbind hf
  refine zr_get C0 fl_X6_9_X6 dX6_fund_13 (zgR e10) ?_
  refine zr_bipush C0 (v := 12) dX6_fund_16 (by decide) ?_
  obtain ⟨x11, e12, hf⟩ := zbind hf
  refine zr_lald C0 dX6_fund_18 e12 ?_
  refine zr_lsub C0 dX6_fund_19 ?_
  refine zr_aload_n C0 dX6_fund_20 rfl 0 rfl ?_
  obtain ⟨x13, e14, hf⟩ := zbind hf
  refine zr_get C0 fl_X6_9_X6 dX6_fund_21 (zgR e14) ?_
  refine zr_bipush C0 (v := 13) dX6_fund_24 (by decide) ?_
  obtain ⟨x15, e16, hf⟩ := zbind hf
  refine zr_lald C0 dX6_fund_26 e16 ?_
  refine zr_lsub C0 dX6_fund_27 ?_
  refine zretW hf ?_
  exact zr_lret C0 rfl dX6_fund_28 rfl
def f_X6_fund (E : zE) (p0 : Nat) (h : zH) : Option (Int64 × zH) := f_X6_fund_b0 E p0 h
theorem m_X6_fund {l : Launch} (hst : l.stackTraces = false) {D : zD} {B0 : Nat} {E : zE} {p0 : Nat} {h h' : zH} {r : Int64} (hf : f_X6_fund E p0 h = some (r, h')) : zMet l yX6_fund (ws_ yX6_fund cX6_fund 1 (Option.some Jvm.ClassFile.FieldType.long)) 3 105 D B0 E [.ref p0] h (zoL r) h' := by
  unfold f_X6_fund at hf
  refine zMet_of hst (by decide +kernel) rfl rfl (Nat.le_of_ble_eq_true rfl) (fun p e R s m below meth c C0 hno => ?_)
  show zW _ _ _ _ _ _ _ _ _ _ _ _ _ _ _ _ [(0, .ref p0)] []
  exact w_X6_fund_b0 C0 hf
def f_X6_fundBalance_b0 (E : zE) (p0 : Nat) (h : zH) : Option (Int64 × zH) :=
  (pF h p0 1 2 (.int (0 : Int32))).bind fun h1 =>
  (cko h1 p0 1).bind fun _ =>
  bnd2 (f_X6_fund E p0 h1) fun x6 h4 =>
  some (x6, h4)
theorem w_X6_fundBalance_b0 (C0 : zCx p l e R s m args below meth c D B0 1 "FranchiseLedgerModel" cX6_fundBalance E 4 125 (Option.some Jvm.ClassFile.FieldType.long) "fundBalance") {r : Int64} {h' : zH} {p0 : Nat} {h : zH} (hf : f_X6_fundBalance_b0 E p0 h = some (r, h')) : zW p l e R s m args below meth c D B0 1 (zEnd D B0 R below args s (zoL r) h') h 0 [(0, .ref p0)] [] := by
  unfold f_X6_fundBalance_b0 at hf
  refine zr_aload_n C0 dX6_fundBalance_0 rfl 0 rfl ?_
  refine zr_iconst C0 (v := 0) dX6_fundBalance_1 (by decide) ?_
  obtain ⟨h1, e2, hf⟩ := zbind hf
  refine zr_put C0 pl_X6_50_X6 dX6_fundBalance_2 (fun h => by cases h) rfl rfl e2 ?_
  refine zr_aload_n C0 dX6_fundBalance_5 rfl 0 rfl ?_
  obtain ⟨_, e3, hf⟩ := zbind hf
  obtain ⟨x6, h4, e5, hf⟩ := zbind2 hf
  refine zr_callV_r C0 cv_X6_253_X6 rfl (zcko e3) (m_X6_fund C0.2.2.2.2.2.2.1 e5) (by decide) (by decide) rfl rfl (Nat.le_of_ble_eq_true rfl) dX6_fundBalance_6 rfl ?_
  refine zretW hf ?_
  exact zr_lret C0 rfl dX6_fundBalance_9 rfl
def f_X6_fundBalance (E : zE) (p0 : Nat) (h : zH) : Option (Int64 × zH) := f_X6_fundBalance_b0 E p0 h
theorem m_X6_fundBalance {l : Launch} (hst : l.stackTraces = false) {D : zD} {B0 : Nat} {E : zE} {p0 : Nat} {h h' : zH} {r : Int64} (hf : f_X6_fundBalance E p0 h = some (r, h')) : zMet l yX6_fundBalance (ws_ yX6_fundBalance cX6_fundBalance 1 (Option.some Jvm.ClassFile.FieldType.long)) 4 125 D B0 E [.ref p0] h (zoL r) h' := by
  unfold f_X6_fundBalance at hf
  refine zMet_of hst (by decide +kernel) rfl rfl (Nat.le_of_ble_eq_true rfl) (fun p e R s m below meth c C0 hno => ?_)
  show zW _ _ _ _ _ _ _ _ _ _ _ _ _ _ _ _ [(0, .ref p0)] []
  exact w_X6_fundBalance_b0 C0 hf
def f_X6_contributions_b37 (E : zE) (s0 : Int64) (h : zH) : Option (Int64 × zH) :=
  some (s0, h)
theorem w_X6_contributions_b37 (C0 : zCx p l e R s m args below meth c D B0 2 "FranchiseLedgerModel" cX6_contributions E 3 106 (Option.some Jvm.ClassFile.FieldType.long) "contributions") {r : Int64} {h' : zH} {s0 : Int64} {h : zH} (hf : f_X6_contributions_b37 E s0 h = some (r, h')) : zW p l e R s m args below meth c D B0 2 (zEnd D B0 R below args s (zoL r) h') h 37 [] [.long s0] := by
  unfold f_X6_contributions_b37 at hf
  refine zretW hf ?_
  exact zr_lret C0 rfl dX6_contributions_37 rfl
def f_X6_contributions_b19 (E : zE) (p0 : Nat) (p1 : Int32) (s0 : Nat) (s1 : Int32) (h : zH) : Option (Int64 × zH) :=
  (cko h s0 1).bind fun _ =>
  bnd2 (f_X6_throwsIf E s0 s1 (1 : Int32) h) fun x4 h2 =>
  if x4 = 0 then (
    (cko h2 p0 1).bind fun _ =>
    bnd2 (f_X6_of E p0 p1 (7 : Int32) h2) fun x9 h7 =>
    f_X6_contributions_b37 E x9 h7
  ) else (
    f_X6_contributions_b37 E (0 : Int64) h2
  )
theorem w_X6_contributions_b19 (C0 : zCx p l e R s m args below meth c D B0 2 "FranchiseLedgerModel" cX6_contributions E 3 106 (Option.some Jvm.ClassFile.FieldType.long) "contributions") {r : Int64} {h' : zH} {p0 : Nat} {p1 : Int32} {s0 : Nat} {s1 : Int32} {h : zH} (hf : f_X6_contributions_b19 E p0 p1 s0 s1 h = some (r, h')) : zW p l e R s m args below meth c D B0 2 (zEnd D B0 R below args s (zoL r) h') h 19 [(0, .ref p0), (1, .int p1)] [.int s1, .ref s0] := by
  unfold f_X6_contributions_b19 at hf
  refine zr_iconst C0 (v := 1) dX6_contributions_19 (by decide) ?_
  obtain ⟨_, e1, hf⟩ := zbind hf
  obtain ⟨x4, h2, e3, hf⟩ := zbind2 hf
  refine zr_callV_r C0 cv_X6_81_X6 rfl (zcko e1) (m_X6_throwsIf C0.2.2.2.2.2.2.1 e3) (by decide) (by decide) rfl rfl (Nat.le_of_ble_eq_true rfl) dX6_contributions_20 rfl ?_
  refine zr_if_eq C0 (tgt := 30) dX6_contributions_23 (by decide) (fun c5 => ?_) (fun c5 => ?_)
  · have hf := zif_t c5 hf
    refine zr_aload_n C0 dX6_contributions_30 rfl 0 rfl ?_
    refine zr_iload_n C0 dX6_contributions_31 rfl 1 rfl ?_
    refine zr_bipush C0 (v := 7) dX6_contributions_32 (by decide) ?_
    obtain ⟨_, e6, hf⟩ := zbind hf
    obtain ⟨x9, h7, e8, hf⟩ := zbind2 hf
    refine zr_callV_r C0 cv_X6_63_X6 rfl (zcko e6) (m_X6_of C0.2.2.2.2.2.2.1 e8) (by decide) (by decide) rfl rfl (Nat.le_of_ble_eq_true rfl) dX6_contributions_34 rfl ?_
    refine zr_sub [] rfl ?_
    exact w_X6_contributions_b37 C0 hf
  · have hf := zif_f c5 hf
    refine zr_lconst C0 (v := 0) dX6_contributions_26 (by decide) ?_
    refine zr_goto C0 (tgt := 37) dX6_contributions_27 (by decide) ?_
    refine zr_sub [] rfl ?_
    exact w_X6_contributions_b37 C0 hf
def f_X6_contributions_b0 (E : zE) (p0 : Nat) (p1 : Int32) (h : zH) : Option (Int64 × zH) :=
  (pF h p0 1 2 (.int (0 : Int32))).bind fun h1 =>
  (cko h1 p0 1).bind fun _ =>
  bnd2 (f_X6_isFranchisee E p0 p1 h1) fun x6 h4 =>
  if x6 = 0 then (
    f_X6_contributions_b19 E p0 p1 p0 (1 : Int32) h4
  ) else (
    f_X6_contributions_b19 E p0 p1 p0 (0 : Int32) h4
  )
theorem w_X6_contributions_b0 (C0 : zCx p l e R s m args below meth c D B0 2 "FranchiseLedgerModel" cX6_contributions E 3 106 (Option.some Jvm.ClassFile.FieldType.long) "contributions") {r : Int64} {h' : zH} {p0 : Nat} {p1 : Int32} {h : zH} (hf : f_X6_contributions_b0 E p0 p1 h = some (r, h')) : zW p l e R s m args below meth c D B0 2 (zEnd D B0 R below args s (zoL r) h') h 0 [(0, .ref p0), (1, .int p1)] [] := by
  unfold f_X6_contributions_b0 at hf
  refine zr_aload_n C0 dX6_contributions_0 rfl 0 rfl ?_
  refine zr_iconst C0 (v := 0) dX6_contributions_1 (by decide) ?_
  obtain ⟨h1, e2, hf⟩ := zbind hf
  refine zr_put C0 pl_X6_50_X6 dX6_contributions_2 (fun h => by cases h) rfl rfl e2 ?_
  refine zr_aload_n C0 dX6_contributions_5 rfl 0 rfl ?_
  refine zr_aload_n C0 dX6_contributions_6 rfl 0 rfl ?_
  refine zr_iload_n C0 dX6_contributions_7 rfl 1 rfl ?_
  obtain ⟨_, e3, hf⟩ := zbind hf
  obtain ⟨x6, h4, e5, hf⟩ := zbind2 hf
  refine zr_callV_r C0 cv_X6_85_X6 rfl (zcko e3) (m_X6_isFranchisee C0.2.2.2.2.2.2.1 e5) (by decide) (by decide) rfl rfl (Nat.le_of_ble_eq_true rfl) dX6_contributions_8 rfl ?_
  refine zr_if_ne C0 (tgt := 18) dX6_contributions_11 (by decide) (fun c7 => ?_) (fun c7 => ?_)
  · have hf := zif_f c7 hf
    refine zr_iconst C0 (v := 0) dX6_contributions_18 (by decide) ?_
    exact w_X6_contributions_b19 C0 hf
  · have hf := zif_t c7 hf
    refine zr_iconst C0 (v := 1) dX6_contributions_14 (by decide) ?_
    refine zr_goto C0 (tgt := 19) dX6_contributions_15 (by decide) ?_
    exact w_X6_contributions_b19 C0 hf
def f_X6_contributions (E : zE) (p0 : Nat) (p1 : Int32) (h : zH) : Option (Int64 × zH) := f_X6_contributions_b0 E p0 p1 h
theorem m_X6_contributions {l : Launch} (hst : l.stackTraces = false) {D : zD} {B0 : Nat} {E : zE} {p0 : Nat} {p1 : Int32} {h h' : zH} {r : Int64} (hf : f_X6_contributions E p0 p1 h = some (r, h')) : zMet l yX6_contributions (ws_ yX6_contributions cX6_contributions 2 (Option.some Jvm.ClassFile.FieldType.long)) 3 106 D B0 E [.ref p0, .int p1] h (zoL r) h' := by
  unfold f_X6_contributions at hf
  refine zMet_of hst (by decide +kernel) rfl rfl (Nat.le_of_ble_eq_true rfl) (fun p e R s m below meth c C0 hno => ?_)
  show zW _ _ _ _ _ _ _ _ _ _ _ _ _ _ _ _ [(0, .ref p0), (1, .int p1)] []
  exact w_X6_contributions_b0 C0 hf
def f_X6_spent_b43 (E : zE) (s0 : Int64) (h : zH) : Option (Int64 × zH) :=
  some (s0, h)
theorem w_X6_spent_b43 (C0 : zCx p l e R s m args below meth c D B0 2 "FranchiseLedgerModel" cX6_spent E 2 85 (Option.some Jvm.ClassFile.FieldType.long) "spent") {r : Int64} {h' : zH} {s0 : Int64} {h : zH} (hf : f_X6_spent_b43 E s0 h = some (r, h')) : zW p l e R s m args below meth c D B0 2 (zEnd D B0 R below args s (zoL r) h') h 43 [] [.long s0] := by
  unfold f_X6_spent_b43 at hf
  refine zretW hf ?_
  exact zr_lret C0 rfl dX6_spent_43 rfl
def f_X6_spent_b23 (E : zE) (p0 : Nat) (p1 : Int32) (s0 : Nat) (s1 : Int32) (h : zH) : Option (Int64 × zH) :=
  (cko h s0 1).bind fun _ =>
  bnd2 (f_X6_throwsIf E s0 s1 (1 : Int32) h) fun x4 h2 =>
  if x4 = 0 then (
    (gR h2 p0 1 0).bind fun x6 =>
    (dL h2 x6 ((11 : Int32) + p1)).bind fun x8 =>
    f_X6_spent_b43 E x8 h2
  ) else (
    f_X6_spent_b43 E (0 : Int64) h2
  )
theorem w_X6_spent_b23 (C0 : zCx p l e R s m args below meth c D B0 2 "FranchiseLedgerModel" cX6_spent E 2 85 (Option.some Jvm.ClassFile.FieldType.long) "spent") {r : Int64} {h' : zH} {p0 : Nat} {p1 : Int32} {s0 : Nat} {s1 : Int32} {h : zH} (hf : f_X6_spent_b23 E p0 p1 s0 s1 h = some (r, h')) : zW p l e R s m args below meth c D B0 2 (zEnd D B0 R below args s (zoL r) h') h 23 [(0, .ref p0), (1, .int p1)] [.int s1, .ref s0] := by
  unfold f_X6_spent_b23 at hf
  refine zr_iconst C0 (v := 1) dX6_spent_23 (by decide) ?_
  obtain ⟨_, e1, hf⟩ := zbind hf
  obtain ⟨x4, h2, e3, hf⟩ := zbind2 hf
  refine zr_callV_r C0 cv_X6_81_X6 rfl (zcko e1) (m_X6_throwsIf C0.2.2.2.2.2.2.1 e3) (by decide) (by decide) rfl rfl (Nat.le_of_ble_eq_true rfl) dX6_spent_24 rfl ?_
  refine zr_if_eq C0 (tgt := 34) dX6_spent_27 (by decide) (fun c5 => ?_) (fun c5 => ?_)
  · have hf := zif_t c5 hf
    refine zr_aload_n C0 dX6_spent_34 rfl 0 rfl ?_
    obtain ⟨x6, e7, hf⟩ := zbind hf
    refine zr_get C0 fl_X6_9_X6 dX6_spent_35 (zgR e7) ?_
    refine zr_bipush C0 (v := 11) dX6_spent_38 (by decide) ?_
    refine zr_iload_n C0 dX6_spent_40 rfl 1 rfl ?_
    refine zr_iadd C0 dX6_spent_41 ?_
    obtain ⟨x8, e9, hf⟩ := zbind hf
    refine zr_lald C0 dX6_spent_42 e9 ?_
    refine zr_sub [] rfl ?_
    exact w_X6_spent_b43 C0 hf
  · have hf := zif_f c5 hf
    refine zr_lconst C0 (v := 0) dX6_spent_30 (by decide) ?_
    refine zr_goto C0 (tgt := 43) dX6_spent_31 (by decide) ?_
    refine zr_sub [] rfl ?_
    exact w_X6_spent_b43 C0 hf
def f_X6_spent_b0 (E : zE) (p0 : Nat) (p1 : Int32) (h : zH) : Option (Int64 × zH) :=
  (pF h p0 1 2 (.int (0 : Int32))).bind fun h1 =>
  bnd2 (f_X6_inRange E (p1.toInt64) (0 : Int64) (2 : Int64) h1) fun x5 h3 =>
  if x5 = 0 then (
    f_X6_spent_b23 E p0 p1 p0 (1 : Int32) h3
  ) else (
    f_X6_spent_b23 E p0 p1 p0 (0 : Int32) h3
  )
theorem w_X6_spent_b0 (C0 : zCx p l e R s m args below meth c D B0 2 "FranchiseLedgerModel" cX6_spent E 2 85 (Option.some Jvm.ClassFile.FieldType.long) "spent") {r : Int64} {h' : zH} {p0 : Nat} {p1 : Int32} {h : zH} (hf : f_X6_spent_b0 E p0 p1 h = some (r, h')) : zW p l e R s m args below meth c D B0 2 (zEnd D B0 R below args s (zoL r) h') h 0 [(0, .ref p0), (1, .int p1)] [] := by
  unfold f_X6_spent_b0 at hf
  refine zr_aload_n C0 dX6_spent_0 rfl 0 rfl ?_
  refine zr_iconst C0 (v := 0) dX6_spent_1 (by decide) ?_
  obtain ⟨h1, e2, hf⟩ := zbind hf
  refine zr_put C0 pl_X6_50_X6 dX6_spent_2 (fun h => by cases h) rfl rfl e2 ?_
  refine zr_aload_n C0 dX6_spent_5 rfl 0 rfl ?_
  refine zr_iload_n C0 dX6_spent_6 rfl 1 rfl ?_
  refine zr_i2l C0 dX6_spent_7 ?_
  refine zr_lconst C0 (v := 0) dX6_spent_8 (by decide) ?_
  refine zr_ldc2 C0 (v := 2) q2903 dX6_spent_9 ?_
  obtain ⟨x5, h3, e4, hf⟩ := zbind2 hf
  refine zr_callS_r C0 cv_X6_53 (m_X6_inRange C0.2.2.2.2.2.2.1 e4) (by decide) (by decide) rfl rfl (Nat.le_of_ble_eq_true rfl) dX6_spent_12 rfl ?_
  refine zr_if_ne C0 (tgt := 22) dX6_spent_15 (by decide) (fun c6 => ?_) (fun c6 => ?_)
  · have hf := zif_f c6 hf
    refine zr_iconst C0 (v := 0) dX6_spent_22 (by decide) ?_
    exact w_X6_spent_b23 C0 hf
  · have hf := zif_t c6 hf
    refine zr_iconst C0 (v := 1) dX6_spent_18 (by decide) ?_
    refine zr_goto C0 (tgt := 23) dX6_spent_19 (by decide) ?_
    exact w_X6_spent_b23 C0 hf
def f_X6_spent (E : zE) (p0 : Nat) (p1 : Int32) (h : zH) : Option (Int64 × zH) := f_X6_spent_b0 E p0 p1 h
theorem m_X6_spent {l : Launch} (hst : l.stackTraces = false) {D : zD} {B0 : Nat} {E : zE} {p0 : Nat} {p1 : Int32} {h h' : zH} {r : Int64} (hf : f_X6_spent E p0 p1 h = some (r, h')) : zMet l yX6_spent (ws_ yX6_spent cX6_spent 2 (Option.some Jvm.ClassFile.FieldType.long)) 2 85 D B0 E [.ref p0, .int p1] h (zoL r) h' := by
  unfold f_X6_spent at hf
  refine zMet_of hst (by decide +kernel) rfl rfl (Nat.le_of_ble_eq_true rfl) (fun p e R s m below meth c C0 hno => ?_)
  show zW _ _ _ _ _ _ _ _ _ _ _ _ _ _ _ _ [(0, .ref p0), (1, .int p1)] []
  exact w_X6_spent_b0 C0 hf
def f_X6_campaign_b38 (E : zE) (h : zH) : Option (Int32 × zH) :=
  some ((0 : Int32), h)
theorem w_X6_campaign_b38 (C0 : zCx p l e R s m args below meth c D B0 3 "FranchiseLedgerModel" cX6_campaign E 4 125 (Option.some Jvm.ClassFile.FieldType.boolean) "campaign") {r : Int32} {h' : zH} {h : zH} (hf : f_X6_campaign_b38 E  h = some (r, h')) : zW p l e R s m args below meth c D B0 3 (zEnd D B0 R below args s (zoI r) h') h 38 [] [] := by
  unfold f_X6_campaign_b38 at hf
  refine zr_iconst C0 (v := 0) dX6_campaign_38 (by decide) ?_
  refine zretW hf ?_
  exact zr_iret C0 (ty := .boolean) rfl (by decide) dX6_campaign_39 rfl
def f_X6_campaign_b22 (E : zE) (p0 : Nat) (p1 : Int64) (s0 : Nat) (s1 : Int32) (h : zH) : Option (Int32 × zH) :=
  (cko h s0 1).bind fun _ =>
  bnd2 (f_X6_throwsIf E s0 s1 (1 : Int32) h) fun x4 h2 =>
  if x4 = 0 then (
    (cko h2 p0 1).bind fun _ =>
    bnd2 (f_X6_fund E p0 h2) fun x9 h7 =>
    if p1 ≤ x9 then (
      (gR h7 p0 1 0).bind fun x11 =>
      (dL h7 x11 (12 : Int32)).bind fun x13 =>
      (sL h7 x11 (12 : Int32) (x13 + p1)).bind fun h15 =>
      some ((1 : Int32), h15)
    ) else (
      f_X6_campaign_b38 E  h7
    )
  ) else (
    f_X6_campaign_b38 E  h2
  )
theorem w_X6_campaign_b22 (C0 : zCx p l e R s m args below meth c D B0 3 "FranchiseLedgerModel" cX6_campaign E 4 125 (Option.some Jvm.ClassFile.FieldType.boolean) "campaign") {r : Int32} {h' : zH} {p0 : Nat} {p1 : Int64} {s0 : Nat} {s1 : Int32} {h : zH} (hf : f_X6_campaign_b22 E p0 p1 s0 s1 h = some (r, h')) : zW p l e R s m args below meth c D B0 3 (zEnd D B0 R below args s (zoI r) h') h 22 [(0, .ref p0), (1, .long p1)] [.int s1, .ref s0] := by
  unfold f_X6_campaign_b22 at hf
  refine zr_iconst C0 (v := 1) dX6_campaign_22 (by decide) ?_
  obtain ⟨_, e1, hf⟩ := zbind hf
  obtain ⟨x4, h2, e3, hf⟩ := zbind2 hf
  refine zr_callV_r C0 cv_X6_81_X6 rfl (zcko e1) (m_X6_throwsIf C0.2.2.2.2.2.2.1 e3) (by decide) (by decide) rfl rfl (Nat.le_of_ble_eq_true rfl) dX6_campaign_23 rfl ?_
  refine zr_if_ne C0 (tgt := 38) dX6_campaign_26 (by decide) (fun c5 => ?_) (fun c5 => ?_)
  · have hf := zif_f c5 hf
    refine zr_sub [] rfl ?_
    exact w_X6_campaign_b38 C0 hf
  · have hf := zif_t c5 hf
    refine zr_lload_n C0 dX6_campaign_29 rfl 1 rfl ?_
    refine zr_aload_n C0 dX6_campaign_30 rfl 0 rfl ?_
    obtain ⟨_, e6, hf⟩ := zbind hf
    obtain ⟨x9, h7, e8, hf⟩ := zbind2 hf
    refine zr_callV_r C0 cv_X6_253_X6 rfl (zcko e6) (m_X6_fund C0.2.2.2.2.2.2.1 e8) (by decide) (by decide) rfl rfl (Nat.le_of_ble_eq_true rfl) dX6_campaign_31 rfl ?_
    refine zr_lcmp C0 dX6_campaign_34 ?_
    refine zr_if_le C0 (tgt := 40) dX6_campaign_35 (by decide) (fun c10 => ?_) (fun c10 => ?_)
    · have hf := zif_t (zl_le.mp c10) hf
      refine zr_aload_n C0 dX6_campaign_40 rfl 0 rfl ?_
      obtain ⟨x11, e12, hf⟩ := zbind hf
      refine zr_get C0 fl_X6_9_X6 dX6_campaign_41 (zgR e12) ?_
      refine zr_bipush C0 (v := 12) dX6_campaign_44 (by decide) ?_
      refine zr_dup2_11 C0 dX6_campaign_46 rfl rfl ?_
      obtain ⟨x13, e14, hf⟩ := zbind hf
      refine zr_lald C0 dX6_campaign_47 e14 ?_
      refine zr_lload_n C0 dX6_campaign_48 rfl 1 rfl ?_
      refine zr_ladd C0 dX6_campaign_49 ?_
      obtain ⟨h15, e16, hf⟩ := zbind hf
      refine zr_last C0 dX6_campaign_50 e16 ?_
      refine zr_iconst C0 (v := 1) dX6_campaign_51 (by decide) ?_
      refine zretW hf ?_
      exact zr_iret C0 (ty := .boolean) rfl (by decide) dX6_campaign_52 rfl
    · have hf := zif_f (zl_len.mp c10) hf
      refine zr_sub [] rfl ?_
      exact w_X6_campaign_b38 C0 hf
def f_X6_campaign_b0 (E : zE) (p0 : Nat) (p1 : Int64) (h : zH) : Option (Int32 × zH) :=
  (pF h p0 1 2 (.int (0 : Int32))).bind fun h1 =>
  bnd2 (f_X6_inRange E p1 (1 : Int64) (1000000000 : Int64) h1) fun x5 h3 =>
  if x5 = 0 then (
    f_X6_campaign_b22 E p0 p1 p0 (1 : Int32) h3
  ) else (
    f_X6_campaign_b22 E p0 p1 p0 (0 : Int32) h3
  )
theorem w_X6_campaign_b0 (C0 : zCx p l e R s m args below meth c D B0 3 "FranchiseLedgerModel" cX6_campaign E 4 125 (Option.some Jvm.ClassFile.FieldType.boolean) "campaign") {r : Int32} {h' : zH} {p0 : Nat} {p1 : Int64} {h : zH} (hf : f_X6_campaign_b0 E p0 p1 h = some (r, h')) : zW p l e R s m args below meth c D B0 3 (zEnd D B0 R below args s (zoI r) h') h 0 [(0, .ref p0), (1, .long p1)] [] := by
  unfold f_X6_campaign_b0 at hf
  refine zr_aload_n C0 dX6_campaign_0 rfl 0 rfl ?_
  refine zr_iconst C0 (v := 0) dX6_campaign_1 (by decide) ?_
  obtain ⟨h1, e2, hf⟩ := zbind hf
  refine zr_put C0 pl_X6_50_X6 dX6_campaign_2 (fun h => by cases h) rfl rfl e2 ?_
  refine zr_aload_n C0 dX6_campaign_5 rfl 0 rfl ?_
  refine zr_lload_n C0 dX6_campaign_6 rfl 1 rfl ?_
  refine zr_lconst C0 (v := 1) dX6_campaign_7 (by decide) ?_
  refine zr_ldc2 C0 (v := 1000000000) q2795 dX6_campaign_8 ?_
  obtain ⟨x5, h3, e4, hf⟩ := zbind2 hf
  refine zr_callS_r C0 cv_X6_53 (m_X6_inRange C0.2.2.2.2.2.2.1 e4) (by decide) (by decide) rfl rfl (Nat.le_of_ble_eq_true rfl) dX6_campaign_11 rfl ?_
  refine zr_if_ne C0 (tgt := 21) dX6_campaign_14 (by decide) (fun c6 => ?_) (fun c6 => ?_)
  · have hf := zif_f c6 hf
    refine zr_iconst C0 (v := 0) dX6_campaign_21 (by decide) ?_
    exact w_X6_campaign_b22 C0 hf
  · have hf := zif_t c6 hf
    refine zr_iconst C0 (v := 1) dX6_campaign_17 (by decide) ?_
    refine zr_goto C0 (tgt := 22) dX6_campaign_18 (by decide) ?_
    exact w_X6_campaign_b22 C0 hf
def f_X6_campaign (E : zE) (p0 : Nat) (p1 : Int64) (h : zH) : Option (Int32 × zH) := f_X6_campaign_b0 E p0 p1 h
theorem m_X6_campaign {l : Launch} (hst : l.stackTraces = false) {D : zD} {B0 : Nat} {E : zE} {p0 : Nat} {p1 : Int64} {h h' : zH} {r : Int32} (hf : f_X6_campaign E p0 p1 h = some (r, h')) : zMet l yX6_campaign (ws_ yX6_campaign cX6_campaign 3 (Option.some Jvm.ClassFile.FieldType.boolean)) 4 125 D B0 E [.ref p0, .long p1] h (zoI r) h' := by
  unfold f_X6_campaign at hf
  refine zMet_of hst (by decide +kernel) rfl rfl (Nat.le_of_ble_eq_true rfl) (fun p e R s m below meth c C0 hno => ?_)
  show zW _ _ _ _ _ _ _ _ _ _ _ _ _ _ _ _ [(0, .ref p0), (1, .long p1)] []
  exact w_X6_campaign_b0 C0 hf
def f_X6_allowanceOf_b0 (E : zE) (p0 : Nat) (p1 : Int32) (h : zH) : Option (Int64 × zH) :=
  (cko h p0 1).bind fun _ =>
  bnd2 (f_X6_of E p0 p1 (7 : Int32) h) fun x4 h2 =>
  (cko h2 p0 1).bind fun _ =>
  bnd2 (f_X6_of E p0 p1 (8 : Int32) h2) fun x8 h6 =>
  some (((x4 / (2 : Int64)) - x8), h6)
theorem w_X6_allowanceOf_b0 (C0 : zCx p l e R s m args below meth c D B0 2 "FranchiseLedgerModel" cX6_allowanceOf E 2 82 (Option.some Jvm.ClassFile.FieldType.long) "allowanceOf") {r : Int64} {h' : zH} {p0 : Nat} {p1 : Int32} {h : zH} (hf : f_X6_allowanceOf_b0 E p0 p1 h = some (r, h')) : zW p l e R s m args below meth c D B0 2 (zEnd D B0 R below args s (zoL r) h') h 0 [(0, .ref p0), (1, .int p1)] [] := by
  unfold f_X6_allowanceOf_b0 at hf
  refine zr_aload_n C0 dX6_allowanceOf_0 rfl 0 rfl ?_
  refine zr_iload_n C0 dX6_allowanceOf_1 rfl 1 rfl ?_
  refine zr_bipush C0 (v := 7) dX6_allowanceOf_2 (by decide) ?_
  obtain ⟨_, e1, hf⟩ := zbind hf
  obtain ⟨x4, h2, e3, hf⟩ := zbind2 hf
  refine zr_callV_r C0 cv_X6_63_X6 rfl (zcko e1) (m_X6_of C0.2.2.2.2.2.2.1 e3) (by decide) (by decide) rfl rfl (Nat.le_of_ble_eq_true rfl) dX6_allowanceOf_4 rfl ?_
  refine zr_ldc2 C0 (v := 2) q2903 dX6_allowanceOf_7 ?_
  refine zr_ldiv C0 dX6_allowanceOf_10 (by decide) ?_
  refine zr_aload_n C0 dX6_allowanceOf_11 rfl 0 rfl ?_
  refine zr_iload_n C0 dX6_allowanceOf_12 rfl 1 rfl ?_
  refine zr_bipush C0 (v := 8) dX6_allowanceOf_13 (by decide) ?_
  obtain ⟨_, e5, hf⟩ := zbind hf
  obtain ⟨x8, h6, e7, hf⟩ := zbind2 hf
  refine zr_callV_r C0 cv_X6_63_X6 rfl (zcko e5) (m_X6_of C0.2.2.2.2.2.2.1 e7) (by decide) (by decide) rfl rfl (Nat.le_of_ble_eq_true rfl) dX6_allowanceOf_15 rfl ?_
  refine zr_lsub C0 dX6_allowanceOf_18 ?_
  refine zretW hf ?_
  exact zr_lret C0 rfl dX6_allowanceOf_19 rfl
def f_X6_allowanceOf (E : zE) (p0 : Nat) (p1 : Int32) (h : zH) : Option (Int64 × zH) := f_X6_allowanceOf_b0 E p0 p1 h
theorem m_X6_allowanceOf {l : Launch} (hst : l.stackTraces = false) {D : zD} {B0 : Nat} {E : zE} {p0 : Nat} {p1 : Int32} {h h' : zH} {r : Int64} (hf : f_X6_allowanceOf E p0 p1 h = some (r, h')) : zMet l yX6_allowanceOf (ws_ yX6_allowanceOf cX6_allowanceOf 2 (Option.some Jvm.ClassFile.FieldType.long)) 2 82 D B0 E [.ref p0, .int p1] h (zoL r) h' := by
  unfold f_X6_allowanceOf at hf
  refine zMet_of hst (by decide +kernel) rfl rfl (Nat.le_of_ble_eq_true rfl) (fun p e R s m below meth c C0 hno => ?_)
  show zW _ _ _ _ _ _ _ _ _ _ _ _ _ _ _ _ [(0, .ref p0), (1, .int p1)] []
  exact w_X6_allowanceOf_b0 C0 hf
def f_X6_grant_b50 (E : zE) (h : zH) : Option (Int32 × zH) :=
  some ((0 : Int32), h)
theorem w_X6_grant_b50 (C0 : zCx p l e R s m args below meth c D B0 4 "FranchiseLedgerModel" cX6_grant E 4 125 (Option.some Jvm.ClassFile.FieldType.boolean) "grant") {r : Int32} {h' : zH} {h : zH} (hf : f_X6_grant_b50 E  h = some (r, h')) : zW p l e R s m args below meth c D B0 4 (zEnd D B0 R below args s (zoI r) h') h 50 [] [] := by
  unfold f_X6_grant_b50 at hf
  refine zr_iconst C0 (v := 0) dX6_grant_50 (by decide) ?_
  refine zretW hf ?_
  exact zr_iret C0 (ty := .boolean) rfl (by decide) dX6_grant_51 rfl
def f_X6_grant_b79 (E : zE) (h : zH) : Option (Int32 × zH) :=
  some ((0 : Int32), h)
theorem w_X6_grant_b79 (C0 : zCx p l e R s m args below meth c D B0 4 "FranchiseLedgerModel" cX6_grant E 4 125 (Option.some Jvm.ClassFile.FieldType.boolean) "grant") {r : Int32} {h' : zH} {h : zH} (hf : f_X6_grant_b79 E  h = some (r, h')) : zW p l e R s m args below meth c D B0 4 (zEnd D B0 R below args s (zoI r) h') h 79 [] [] := by
  unfold f_X6_grant_b79 at hf
  refine zr_iconst C0 (v := 0) dX6_grant_79 (by decide) ?_
  refine zretW hf ?_
  exact zr_iret C0 (ty := .boolean) rfl (by decide) dX6_grant_80 rfl
def f_X6_grant_b43 (E : zE) (p0 : Nat) (p1 : Int32) (p2 : Int64) (s0 : Nat) (s1 : Int32) (h : zH) : Option (Int32 × zH) :=
  (cko h s0 1).bind fun _ =>
  bnd2 (f_X6_throwsIf E s0 s1 (2 : Int32) h) fun x4 h2 =>
  if x4 = 0 then (
    (cko h2 p0 1).bind fun _ =>
    bnd2 (f_X6_isActive E p0 p1 h2) fun x9 h7 =>
    if x9 = 0 then (
      f_X6_grant_b79 E  h7
    ) else (
      (cko h7 p0 1).bind fun _ =>
      bnd2 (f_X6_allowanceOf E p0 p1 h7) fun x14 h12 =>
      if x14 < p2 then (
        f_X6_grant_b79 E  h12
      ) else (
        (cko h12 p0 1).bind fun _ =>
        bnd2 (f_X6_fund E p0 h12) fun x19 h17 =>
        if p2 ≤ x19 then (
          (gR h17 p0 1 0).bind fun x21 =>
          (dL h17 x21 (13 : Int32)).bind fun x23 =>
          (sL h17 x21 (13 : Int32) (x23 + p2)).bind fun h25 =>
          (cko h25 p0 1).bind fun _ =>
          bnd2 (f_X6_add E p0 p1 (8 : Int32) p2 h25) fun x30 h28 =>
          (cko h28 p0 1).bind fun _ =>
          bnd2 (f_X6_add E p0 p1 (4 : Int32) (-p2) h28) fun x34 h32 =>
          some ((1 : Int32), h32)
        ) else (
          f_X6_grant_b79 E  h17
        )
      )
    )
  ) else (
    f_X6_grant_b50 E  h2
  )
theorem w_X6_grant_b43 (C0 : zCx p l e R s m args below meth c D B0 4 "FranchiseLedgerModel" cX6_grant E 4 125 (Option.some Jvm.ClassFile.FieldType.boolean) "grant") {r : Int32} {h' : zH} {p0 : Nat} {p1 : Int32} {p2 : Int64} {s0 : Nat} {s1 : Int32} {h : zH} (hf : f_X6_grant_b43 E p0 p1 p2 s0 s1 h = some (r, h')) : zW p l e R s m args below meth c D B0 4 (zEnd D B0 R below args s (zoI r) h') h 43 [(0, .ref p0), (1, .int p1), (2, .long p2)] [.int s1, .ref s0] := by
  unfold f_X6_grant_b43 at hf
  refine zr_iconst C0 (v := 2) dX6_grant_43 (by decide) ?_
  obtain ⟨_, e1, hf⟩ := zbind hf
  obtain ⟨x4, h2, e3, hf⟩ := zbind2 hf
  refine zr_callV_r C0 cv_X6_81_X6 rfl (zcko e1) (m_X6_throwsIf C0.2.2.2.2.2.2.1 e3) (by decide) (by decide) rfl rfl (Nat.le_of_ble_eq_true rfl) dX6_grant_44 rfl ?_
  refine zr_if_eq C0 (tgt := 52) dX6_grant_47 (by decide) (fun c5 => ?_) (fun c5 => ?_)
  · have hf := zif_t c5 hf
    refine zr_aload_n C0 dX6_grant_52 rfl 0 rfl ?_
    refine zr_iload_n C0 dX6_grant_53 rfl 1 rfl ?_
    obtain ⟨_, e6, hf⟩ := zbind hf
    obtain ⟨x9, h7, e8, hf⟩ := zbind2 hf
    refine zr_callV_r C0 cv_X6_128_X6 rfl (zcko e6) (m_X6_isActive C0.2.2.2.2.2.2.1 e8) (by decide) (by decide) rfl rfl (Nat.le_of_ble_eq_true rfl) dX6_grant_54 rfl ?_
    refine zr_if_eq C0 (tgt := 79) dX6_grant_57 (by decide) (fun c10 => ?_) (fun c10 => ?_)
    · have hf := zif_t c10 hf
      refine zr_sub [] rfl ?_
      exact w_X6_grant_b79 C0 hf
    · have hf := zif_f c10 hf
      refine zr_lload_n C0 dX6_grant_60 rfl 2 rfl ?_
      refine zr_aload_n C0 dX6_grant_61 rfl 0 rfl ?_
      refine zr_iload_n C0 dX6_grant_62 rfl 1 rfl ?_
      obtain ⟨_, e11, hf⟩ := zbind hf
      obtain ⟨x14, h12, e13, hf⟩ := zbind2 hf
      refine zr_callV_r C0 cv_X6_256_X6 rfl (zcko e11) (m_X6_allowanceOf C0.2.2.2.2.2.2.1 e13) (by decide) (by decide) rfl rfl (Nat.le_of_ble_eq_true rfl) dX6_grant_63 rfl ?_
      refine zr_lcmp C0 dX6_grant_66 ?_
      refine zr_if_gt C0 (tgt := 79) dX6_grant_67 (by decide) (fun c15 => ?_) (fun c15 => ?_)
      · have hf := zif_t (zl_gt.mp c15) hf
        refine zr_sub [] rfl ?_
        exact w_X6_grant_b79 C0 hf
      · have hf := zif_f (zl_gtn.mp c15) hf
        refine zr_lload_n C0 dX6_grant_70 rfl 2 rfl ?_
        refine zr_aload_n C0 dX6_grant_71 rfl 0 rfl ?_
        obtain ⟨_, e16, hf⟩ := zbind hf
        obtain ⟨x19, h17, e18, hf⟩ := zbind2 hf
        refine zr_callV_r C0 cv_X6_253_X6 rfl (zcko e16) (m_X6_fund C0.2.2.2.2.2.2.1 e18) (by decide) (by decide) rfl rfl (Nat.le_of_ble_eq_true rfl) dX6_grant_72 rfl ?_
        refine zr_lcmp C0 dX6_grant_75 ?_
        refine zr_if_le C0 (tgt := 81) dX6_grant_76 (by decide) (fun c20 => ?_) (fun c20 => ?_)
        · have hf := zif_t (zl_le.mp c20) hf
          refine zr_aload_n C0 dX6_grant_81 rfl 0 rfl ?_
          obtain ⟨x21, e22, hf⟩ := zbind hf
          refine zr_get C0 fl_X6_9_X6 dX6_grant_82 (zgR e22) ?_
          refine zr_bipush C0 (v := 13) dX6_grant_85 (by decide) ?_
          refine zr_dup2_11 C0 dX6_grant_87 rfl rfl ?_
          obtain ⟨x23, e24, hf⟩ := zbind hf
          refine zr_lald C0 dX6_grant_88 e24 ?_
          refine zr_lload_n C0 dX6_grant_89 rfl 2 rfl ?_
          refine zr_ladd C0 dX6_grant_90 ?_
          obtain ⟨h25, e26, hf⟩ := zbind hf
          refine zr_last C0 dX6_grant_91 e26 ?_
          refine zr_aload_n C0 dX6_grant_92 rfl 0 rfl ?_
          refine zr_iload_n C0 dX6_grant_93 rfl 1 rfl ?_
          refine zr_bipush C0 (v := 8) dX6_grant_94 (by decide) ?_
          refine zr_lload_n C0 dX6_grant_96 rfl 2 rfl ?_
          obtain ⟨_, e27, hf⟩ := zbind hf
          obtain ⟨x30, h28, e29, hf⟩ := zbind2 hf
          refine zr_callV_r C0 cv_X6_224_X6 rfl (zcko e27) (m_X6_add C0.2.2.2.2.2.2.1 e29) (by decide) (by decide) rfl rfl (Nat.le_of_ble_eq_true rfl) dX6_grant_97 rfl ?_
          refine zr_aload_n C0 dX6_grant_100 rfl 0 rfl ?_
          refine zr_iload_n C0 dX6_grant_101 rfl 1 rfl ?_
          refine zr_iconst C0 (v := 4) dX6_grant_102 (by decide) ?_
          refine zr_lload_n C0 dX6_grant_103 rfl 2 rfl ?_
          refine zr_lneg C0 dX6_grant_104 ?_
          obtain ⟨_, e31, hf⟩ := zbind hf
          obtain ⟨x34, h32, e33, hf⟩ := zbind2 hf
          refine zr_callV_r C0 cv_X6_224_X6 rfl (zcko e31) (m_X6_add C0.2.2.2.2.2.2.1 e33) (by decide) (by decide) rfl rfl (Nat.le_of_ble_eq_true rfl) dX6_grant_105 rfl ?_
          refine zr_iconst C0 (v := 1) dX6_grant_108 (by decide) ?_
          refine zretW hf ?_
          exact zr_iret C0 (ty := .boolean) rfl (by decide) dX6_grant_109 rfl
        · have hf := zif_f (zl_len.mp c20) hf
          refine zr_sub [] rfl ?_
          exact w_X6_grant_b79 C0 hf
  · have hf := zif_f c5 hf
    refine zr_sub [] rfl ?_
    exact w_X6_grant_b50 C0 hf
def f_X6_grant_b19 (E : zE) (p0 : Nat) (p1 : Int32) (p2 : Int64) (s0 : Nat) (s1 : Int32) (h : zH) : Option (Int32 × zH) :=
  (cko h s0 1).bind fun _ =>
  bnd2 (f_X6_throwsIf E s0 s1 (1 : Int32) h) fun x4 h2 =>
  if x4 = 0 then (
    bnd2 (f_X6_inRange E p2 (1 : Int64) (1000000000 : Int64) h2) fun x8 h6 =>
    if x8 = 0 then (
      f_X6_grant_b43 E p0 p1 p2 p0 (1 : Int32) h6
    ) else (
      f_X6_grant_b43 E p0 p1 p2 p0 (0 : Int32) h6
    )
  ) else (
    f_X6_grant_b50 E  h2
  )
theorem w_X6_grant_b19 (C0 : zCx p l e R s m args below meth c D B0 4 "FranchiseLedgerModel" cX6_grant E 4 125 (Option.some Jvm.ClassFile.FieldType.boolean) "grant") {r : Int32} {h' : zH} {p0 : Nat} {p1 : Int32} {p2 : Int64} {s0 : Nat} {s1 : Int32} {h : zH} (hf : f_X6_grant_b19 E p0 p1 p2 s0 s1 h = some (r, h')) : zW p l e R s m args below meth c D B0 4 (zEnd D B0 R below args s (zoI r) h') h 19 [(0, .ref p0), (1, .int p1), (2, .long p2)] [.int s1, .ref s0] := by
  unfold f_X6_grant_b19 at hf
  refine zr_iconst C0 (v := 1) dX6_grant_19 (by decide) ?_
  obtain ⟨_, e1, hf⟩ := zbind hf
  obtain ⟨x4, h2, e3, hf⟩ := zbind2 hf
  refine zr_callV_r C0 cv_X6_81_X6 rfl (zcko e1) (m_X6_throwsIf C0.2.2.2.2.2.2.1 e3) (by decide) (by decide) rfl rfl (Nat.le_of_ble_eq_true rfl) dX6_grant_20 rfl ?_
  refine zr_if_ne C0 (tgt := 50) dX6_grant_23 (by decide) (fun c5 => ?_) (fun c5 => ?_)
  · have hf := zif_f c5 hf
    refine zr_sub [] rfl ?_
    exact w_X6_grant_b50 C0 hf
  · have hf := zif_t c5 hf
    refine zr_aload_n C0 dX6_grant_26 rfl 0 rfl ?_
    refine zr_lload_n C0 dX6_grant_27 rfl 2 rfl ?_
    refine zr_lconst C0 (v := 1) dX6_grant_28 (by decide) ?_
    refine zr_ldc2 C0 (v := 1000000000) q2795 dX6_grant_29 ?_
    obtain ⟨x8, h6, e7, hf⟩ := zbind2 hf
    refine zr_callS_r C0 cv_X6_53 (m_X6_inRange C0.2.2.2.2.2.2.1 e7) (by decide) (by decide) rfl rfl (Nat.le_of_ble_eq_true rfl) dX6_grant_32 rfl ?_
    refine zr_if_ne C0 (tgt := 42) dX6_grant_35 (by decide) (fun c9 => ?_) (fun c9 => ?_)
    · have hf := zif_f c9 hf
      refine zr_iconst C0 (v := 0) dX6_grant_42 (by decide) ?_
      exact w_X6_grant_b43 C0 hf
    · have hf := zif_t c9 hf
      refine zr_iconst C0 (v := 1) dX6_grant_38 (by decide) ?_
      refine zr_goto C0 (tgt := 43) dX6_grant_39 (by decide) ?_
      exact w_X6_grant_b43 C0 hf
def f_X6_grant_b0 (E : zE) (p0 : Nat) (p1 : Int32) (p2 : Int64) (h : zH) : Option (Int32 × zH) :=
  (pF h p0 1 2 (.int (0 : Int32))).bind fun h1 =>
  (cko h1 p0 1).bind fun _ =>
  bnd2 (f_X6_isFranchisee E p0 p1 h1) fun x6 h4 =>
  if x6 = 0 then (
    f_X6_grant_b19 E p0 p1 p2 p0 (1 : Int32) h4
  ) else (
    f_X6_grant_b19 E p0 p1 p2 p0 (0 : Int32) h4
  )
theorem w_X6_grant_b0 (C0 : zCx p l e R s m args below meth c D B0 4 "FranchiseLedgerModel" cX6_grant E 4 125 (Option.some Jvm.ClassFile.FieldType.boolean) "grant") {r : Int32} {h' : zH} {p0 : Nat} {p1 : Int32} {p2 : Int64} {h : zH} (hf : f_X6_grant_b0 E p0 p1 p2 h = some (r, h')) : zW p l e R s m args below meth c D B0 4 (zEnd D B0 R below args s (zoI r) h') h 0 [(0, .ref p0), (1, .int p1), (2, .long p2)] [] := by
  unfold f_X6_grant_b0 at hf
  refine zr_aload_n C0 dX6_grant_0 rfl 0 rfl ?_
  refine zr_iconst C0 (v := 0) dX6_grant_1 (by decide) ?_
  obtain ⟨h1, e2, hf⟩ := zbind hf
  refine zr_put C0 pl_X6_50_X6 dX6_grant_2 (fun h => by cases h) rfl rfl e2 ?_
  refine zr_aload_n C0 dX6_grant_5 rfl 0 rfl ?_
  refine zr_aload_n C0 dX6_grant_6 rfl 0 rfl ?_
  refine zr_iload_n C0 dX6_grant_7 rfl 1 rfl ?_
  obtain ⟨_, e3, hf⟩ := zbind hf
  obtain ⟨x6, h4, e5, hf⟩ := zbind2 hf
  refine zr_callV_r C0 cv_X6_85_X6 rfl (zcko e3) (m_X6_isFranchisee C0.2.2.2.2.2.2.1 e5) (by decide) (by decide) rfl rfl (Nat.le_of_ble_eq_true rfl) dX6_grant_8 rfl ?_
  refine zr_if_ne C0 (tgt := 18) dX6_grant_11 (by decide) (fun c7 => ?_) (fun c7 => ?_)
  · have hf := zif_f c7 hf
    refine zr_iconst C0 (v := 0) dX6_grant_18 (by decide) ?_
    exact w_X6_grant_b19 C0 hf
  · have hf := zif_t c7 hf
    refine zr_iconst C0 (v := 1) dX6_grant_14 (by decide) ?_
    refine zr_goto C0 (tgt := 19) dX6_grant_15 (by decide) ?_
    exact w_X6_grant_b19 C0 hf
def f_X6_grant (E : zE) (p0 : Nat) (p1 : Int32) (p2 : Int64) (h : zH) : Option (Int32 × zH) := f_X6_grant_b0 E p0 p1 p2 h
theorem m_X6_grant {l : Launch} (hst : l.stackTraces = false) {D : zD} {B0 : Nat} {E : zE} {p0 : Nat} {p1 : Int32} {p2 : Int64} {h h' : zH} {r : Int32} (hf : f_X6_grant E p0 p1 p2 h = some (r, h')) : zMet l yX6_grant (ws_ yX6_grant cX6_grant 4 (Option.some Jvm.ClassFile.FieldType.boolean)) 4 125 D B0 E [.ref p0, .int p1, .long p2] h (zoI r) h' := by
  unfold f_X6_grant at hf
  refine zMet_of hst (by decide +kernel) rfl rfl (Nat.le_of_ble_eq_true rfl) (fun p e R s m below meth c C0 hno => ?_)
  show zW _ _ _ _ _ _ _ _ _ _ _ _ _ _ _ _ [(0, .ref p0), (1, .int p1), (2, .long p2)] []
  exact w_X6_grant_b0 C0 hf
def f_X6_allowance_b35 (E : zE) (s0 : Int64) (h : zH) : Option (Int64 × zH) :=
  some (s0, h)
theorem w_X6_allowance_b35 (C0 : zCx p l e R s m args below meth c D B0 2 "FranchiseLedgerModel" cX6_allowance E 3 106 (Option.some Jvm.ClassFile.FieldType.long) "allowance") {r : Int64} {h' : zH} {s0 : Int64} {h : zH} (hf : f_X6_allowance_b35 E s0 h = some (r, h')) : zW p l e R s m args below meth c D B0 2 (zEnd D B0 R below args s (zoL r) h') h 35 [] [.long s0] := by
  unfold f_X6_allowance_b35 at hf
  refine zretW hf ?_
  exact zr_lret C0 rfl dX6_allowance_35 rfl
def f_X6_allowance_b19 (E : zE) (p0 : Nat) (p1 : Int32) (s0 : Nat) (s1 : Int32) (h : zH) : Option (Int64 × zH) :=
  (cko h s0 1).bind fun _ =>
  bnd2 (f_X6_throwsIf E s0 s1 (1 : Int32) h) fun x4 h2 =>
  if x4 = 0 then (
    (cko h2 p0 1).bind fun _ =>
    bnd2 (f_X6_allowanceOf E p0 p1 h2) fun x9 h7 =>
    f_X6_allowance_b35 E x9 h7
  ) else (
    f_X6_allowance_b35 E (0 : Int64) h2
  )
theorem w_X6_allowance_b19 (C0 : zCx p l e R s m args below meth c D B0 2 "FranchiseLedgerModel" cX6_allowance E 3 106 (Option.some Jvm.ClassFile.FieldType.long) "allowance") {r : Int64} {h' : zH} {p0 : Nat} {p1 : Int32} {s0 : Nat} {s1 : Int32} {h : zH} (hf : f_X6_allowance_b19 E p0 p1 s0 s1 h = some (r, h')) : zW p l e R s m args below meth c D B0 2 (zEnd D B0 R below args s (zoL r) h') h 19 [(0, .ref p0), (1, .int p1)] [.int s1, .ref s0] := by
  unfold f_X6_allowance_b19 at hf
  refine zr_iconst C0 (v := 1) dX6_allowance_19 (by decide) ?_
  obtain ⟨_, e1, hf⟩ := zbind hf
  obtain ⟨x4, h2, e3, hf⟩ := zbind2 hf
  refine zr_callV_r C0 cv_X6_81_X6 rfl (zcko e1) (m_X6_throwsIf C0.2.2.2.2.2.2.1 e3) (by decide) (by decide) rfl rfl (Nat.le_of_ble_eq_true rfl) dX6_allowance_20 rfl ?_
  refine zr_if_eq C0 (tgt := 30) dX6_allowance_23 (by decide) (fun c5 => ?_) (fun c5 => ?_)
  · have hf := zif_t c5 hf
    refine zr_aload_n C0 dX6_allowance_30 rfl 0 rfl ?_
    refine zr_iload_n C0 dX6_allowance_31 rfl 1 rfl ?_
    obtain ⟨_, e6, hf⟩ := zbind hf
    obtain ⟨x9, h7, e8, hf⟩ := zbind2 hf
    refine zr_callV_r C0 cv_X6_256_X6 rfl (zcko e6) (m_X6_allowanceOf C0.2.2.2.2.2.2.1 e8) (by decide) (by decide) rfl rfl (Nat.le_of_ble_eq_true rfl) dX6_allowance_32 rfl ?_
    refine zr_sub [] rfl ?_
    exact w_X6_allowance_b35 C0 hf
  · have hf := zif_f c5 hf
    refine zr_lconst C0 (v := 0) dX6_allowance_26 (by decide) ?_
    refine zr_goto C0 (tgt := 35) dX6_allowance_27 (by decide) ?_
    refine zr_sub [] rfl ?_
    exact w_X6_allowance_b35 C0 hf
def f_X6_allowance_b0 (E : zE) (p0 : Nat) (p1 : Int32) (h : zH) : Option (Int64 × zH) :=
  (pF h p0 1 2 (.int (0 : Int32))).bind fun h1 =>
  (cko h1 p0 1).bind fun _ =>
  bnd2 (f_X6_isFranchisee E p0 p1 h1) fun x6 h4 =>
  if x6 = 0 then (
    f_X6_allowance_b19 E p0 p1 p0 (1 : Int32) h4
  ) else (
    f_X6_allowance_b19 E p0 p1 p0 (0 : Int32) h4
  )
theorem w_X6_allowance_b0 (C0 : zCx p l e R s m args below meth c D B0 2 "FranchiseLedgerModel" cX6_allowance E 3 106 (Option.some Jvm.ClassFile.FieldType.long) "allowance") {r : Int64} {h' : zH} {p0 : Nat} {p1 : Int32} {h : zH} (hf : f_X6_allowance_b0 E p0 p1 h = some (r, h')) : zW p l e R s m args below meth c D B0 2 (zEnd D B0 R below args s (zoL r) h') h 0 [(0, .ref p0), (1, .int p1)] [] := by
  unfold f_X6_allowance_b0 at hf
  refine zr_aload_n C0 dX6_allowance_0 rfl 0 rfl ?_
  refine zr_iconst C0 (v := 0) dX6_allowance_1 (by decide) ?_
  obtain ⟨h1, e2, hf⟩ := zbind hf
  refine zr_put C0 pl_X6_50_X6 dX6_allowance_2 (fun h => by cases h) rfl rfl e2 ?_
  refine zr_aload_n C0 dX6_allowance_5 rfl 0 rfl ?_
  refine zr_aload_n C0 dX6_allowance_6 rfl 0 rfl ?_
  refine zr_iload_n C0 dX6_allowance_7 rfl 1 rfl ?_
  obtain ⟨_, e3, hf⟩ := zbind hf
  obtain ⟨x6, h4, e5, hf⟩ := zbind2 hf
  refine zr_callV_r C0 cv_X6_85_X6 rfl (zcko e3) (m_X6_isFranchisee C0.2.2.2.2.2.2.1 e5) (by decide) (by decide) rfl rfl (Nat.le_of_ble_eq_true rfl) dX6_allowance_8 rfl ?_
  refine zr_if_ne C0 (tgt := 18) dX6_allowance_11 (by decide) (fun c7 => ?_) (fun c7 => ?_)
  · have hf := zif_f c7 hf
    refine zr_iconst C0 (v := 0) dX6_allowance_18 (by decide) ?_
    exact w_X6_allowance_b19 C0 hf
  · have hf := zif_t c7 hf
    refine zr_iconst C0 (v := 1) dX6_allowance_14 (by decide) ?_
    refine zr_goto C0 (tgt := 19) dX6_allowance_15 (by decide) ?_
    exact w_X6_allowance_b19 C0 hf
def f_X6_allowance (E : zE) (p0 : Nat) (p1 : Int32) (h : zH) : Option (Int64 × zH) := f_X6_allowance_b0 E p0 p1 h
theorem m_X6_allowance {l : Launch} (hst : l.stackTraces = false) {D : zD} {B0 : Nat} {E : zE} {p0 : Nat} {p1 : Int32} {h h' : zH} {r : Int64} (hf : f_X6_allowance E p0 p1 h = some (r, h')) : zMet l yX6_allowance (ws_ yX6_allowance cX6_allowance 2 (Option.some Jvm.ClassFile.FieldType.long)) 3 106 D B0 E [.ref p0, .int p1] h (zoL r) h' := by
  unfold f_X6_allowance at hf
  refine zMet_of hst (by decide +kernel) rfl rfl (Nat.le_of_ble_eq_true rfl) (fun p e R s m below meth c C0 hno => ?_)
  show zW _ _ _ _ _ _ _ _ _ _ _ _ _ _ _ _ [(0, .ref p0), (1, .int p1)] []
  exact w_X6_allowance_b0 C0 hf
def f_X6_product_b0 (E : zE) (p0 : Nat) (p1 : Int32) (h : zH) : Option (Int64 × zH) :=
  (gR h p0 1 0).bind fun x1 =>
  (dL h x1 (12 : Int32)).bind fun x3 =>
  (cko h p0 1).bind fun _ =>
  bnd2 (f_X6_of E p0 p1 (7 : Int32) h) fun x8 h6 =>
  some ((x3 * x8), h6)
theorem w_X6_product_b0 (C0 : zCx p l e R s m args below meth c D B0 2 "FranchiseLedgerModel" cX6_product E 2 82 (Option.some Jvm.ClassFile.FieldType.long) "product") {r : Int64} {h' : zH} {p0 : Nat} {p1 : Int32} {h : zH} (hf : f_X6_product_b0 E p0 p1 h = some (r, h')) : zW p l e R s m args below meth c D B0 2 (zEnd D B0 R below args s (zoL r) h') h 0 [(0, .ref p0), (1, .int p1)] [] := by
  unfold f_X6_product_b0 at hf
  refine zr_aload_n C0 dX6_product_0 rfl 0 rfl ?_
  obtain ⟨x1, e2, hf⟩ := zbind hf
  refine zr_get C0 fl_X6_9_X6 dX6_product_1 (zgR e2) ?_
  refine zr_bipush C0 (v := 12) dX6_product_4 (by decide) ?_
  obtain ⟨x3, e4, hf⟩ := zbind hf
  refine zr_lald C0 dX6_product_6 e4 ?_
  refine zr_aload_n C0 dX6_product_7 rfl 0 rfl ?_
  refine zr_iload_n C0 dX6_product_8 rfl 1 rfl ?_
  refine zr_bipush C0 (v := 7) dX6_product_9 (by decide) ?_
  obtain ⟨_, e5, hf⟩ := zbind hf
  obtain ⟨x8, h6, e7, hf⟩ := zbind2 hf
  refine zr_callV_r C0 cv_X6_63_X6 rfl (zcko e5) (m_X6_of C0.2.2.2.2.2.2.1 e7) (by decide) (by decide) rfl rfl (Nat.le_of_ble_eq_true rfl) dX6_product_11 rfl ?_
  refine zr_lmul C0 dX6_product_14 ?_
  refine zretW hf ?_
  exact zr_lret C0 rfl dX6_product_15 rfl
def f_X6_product (E : zE) (p0 : Nat) (p1 : Int32) (h : zH) : Option (Int64 × zH) := f_X6_product_b0 E p0 p1 h
theorem m_X6_product {l : Launch} (hst : l.stackTraces = false) {D : zD} {B0 : Nat} {E : zE} {p0 : Nat} {p1 : Int32} {h h' : zH} {r : Int64} (hf : f_X6_product E p0 p1 h = some (r, h')) : zMet l yX6_product (ws_ yX6_product cX6_product 2 (Option.some Jvm.ClassFile.FieldType.long)) 2 82 D B0 E [.ref p0, .int p1] h (zoL r) h' := by
  unfold f_X6_product at hf
  refine zMet_of hst (by decide +kernel) rfl rfl (Nat.le_of_ble_eq_true rfl) (fun p e R s m below meth c C0 hno => ?_)
  show zW _ _ _ _ _ _ _ _ _ _ _ _ _ _ _ _ [(0, .ref p0), (1, .int p1)] []
  exact w_X6_product_b0 C0 hf
def f_X6_nationalShare_b35 (E : zE) (h : zH) : Option (Int64 × zH) :=
  some ((0 : Int64), h)
theorem w_X6_nationalShare_b35 (C0 : zCx p l e R s m args below meth c D B0 11 "FranchiseLedgerModel" cX6_nationalShare E 3 106 (Option.some Jvm.ClassFile.FieldType.long) "nationalShare") {r : Int64} {h' : zH} {h : zH} (hf : f_X6_nationalShare_b35 E  h = some (r, h')) : zW p l e R s m args below meth c D B0 11 (zEnd D B0 R below args s (zoL r) h') h 35 [] [] := by
  unfold f_X6_nationalShare_b35 at hf
  refine zr_lconst C0 (v := 0) dX6_nationalShare_35 (by decide) ?_
  refine zretW hf ?_
  exact zr_lret C0 rfl dX6_nationalShare_36 rfl
def f_X6_nationalShare_b157 (E : zE) (s0 : Int64) (s1 : Int64) (h : zH) : Option (Int64 × zH) :=
  some ((s0 + s1), h)
theorem w_X6_nationalShare_b157 (C0 : zCx p l e R s m args below meth c D B0 11 "FranchiseLedgerModel" cX6_nationalShare E 3 106 (Option.some Jvm.ClassFile.FieldType.long) "nationalShare") {r : Int64} {h' : zH} {s0 : Int64} {s1 : Int64} {h : zH} (hf : f_X6_nationalShare_b157 E s0 s1 h = some (r, h')) : zW p l e R s m args below meth c D B0 11 (zEnd D B0 R below args s (zoL r) h') h 157 [] [.long s1, .long s0] := by
  unfold f_X6_nationalShare_b157 at hf
  refine zr_ladd C0 dX6_nationalShare_157 ?_
  refine zretW hf ?_
  exact zr_lret C0 rfl dX6_nationalShare_158 rfl
def f_X6_nationalShare_b128 (E : zE) (k57 : Nat → Int32 → Int64 → Int64 → Int64 → Int32 → zH → Option (Int64 × zH)) (p0 : Nat) (p1 : Int32) (p2 : Int64) (p4 : Int64) (p8 : Int32) (s0 : Int64) (s1 : Int64) (h : zH) : Option (Int64 × zH) :=
  k57 p0 p1 p2 p4 (s0 + s1) (p8 + 1) h
theorem w_X6_nationalShare_b128 (C0 : zCx p l e R s m args below meth c D B0 11 "FranchiseLedgerModel" cX6_nationalShare E 3 106 (Option.some Jvm.ClassFile.FieldType.long) "nationalShare") {r : Int64} {h' : zH} {k57 : Nat → Int32 → Int64 → Int64 → Int64 → Int32 → zH → Option (Int64 × zH)} (hk57 : ∀ (p0 : Nat) (p1 : Int32) (p2 : Int64) (p4 : Int64) (p6 : Int64) (p8 : Int32) (h : zH), k57 p0 p1 p2 p4 p6 p8 h = some (r, h') → zW p l e R s m args below meth c D B0 11 (zEnd D B0 R below args s (zoL r) h') h 57 [(0, .ref p0), (1, .int p1), (2, .long p2), (4, .long p4), (6, .long p6), (8, .int p8)] []) {p0 : Nat} {p1 : Int32} {p2 : Int64} {p4 : Int64} {p8 : Int32} {s0 : Int64} {s1 : Int64} {h : zH} (hf : f_X6_nationalShare_b128 E k57 p0 p1 p2 p4 p8 s0 s1 h = some (r, h')) : zW p l e R s m args below meth c D B0 11 (zEnd D B0 R below args s (zoL r) h') h 128 [(0, .ref p0), (1, .int p1), (2, .long p2), (4, .long p4), (8, .int p8)] [.long s1, .long s0] := by
  unfold f_X6_nationalShare_b128 at hf
  refine zr_ladd C0 dX6_nationalShare_128 ?_
  refine zr_lstore (i := 6) (lv' := [(6, .long (s0 + s1)), (0, .ref p0), (1, .int p1), (2, .long p2), (4, .long p4), (8, .int p8)]) C0 dX6_nationalShare_129 (by decide) (by first | rfl | simp [zst1, zst2, zcat_rf]) ?_
  refine zr_iinc (lv' := [(8, .int (p8 + 1)), (6, .long (s0 + s1)), (0, .ref p0), (1, .int p1), (2, .long p2), (4, .long p4)]) C0 dX6_nationalShare_131 5 rfl rfl (by decide) (by first | rfl | simp [zst1, zst2, zcat_rf]) ?_
  refine zr_goto C0 (tgt := 57) dX6_nationalShare_134 (by decide) ?_
  refine zr_sub [2, 3, 4, 5, 1, 0] rfl ?_
  exact hk57 _ _ _ _ _ _ _ hf
def f_X6_nationalShare_b123 (E : zE) (k57 : Nat → Int32 → Int64 → Int64 → Int64 → Int32 → zH → Option (Int64 × zH)) (p0 : Nat) (p1 : Int32) (p2 : Int64) (p4 : Int64) (p8 : Int32) (s0 : Int64) (h : zH) : Option (Int64 × zH) :=
  f_X6_nationalShare_b128 E k57 p0 p1 p2 p4 p8 s0 (1 : Int64) h
theorem w_X6_nationalShare_b123 (C0 : zCx p l e R s m args below meth c D B0 11 "FranchiseLedgerModel" cX6_nationalShare E 3 106 (Option.some Jvm.ClassFile.FieldType.long) "nationalShare") {r : Int64} {h' : zH} {k57 : Nat → Int32 → Int64 → Int64 → Int64 → Int32 → zH → Option (Int64 × zH)} (hk57 : ∀ (p0 : Nat) (p1 : Int32) (p2 : Int64) (p4 : Int64) (p6 : Int64) (p8 : Int32) (h : zH), k57 p0 p1 p2 p4 p6 p8 h = some (r, h') → zW p l e R s m args below meth c D B0 11 (zEnd D B0 R below args s (zoL r) h') h 57 [(0, .ref p0), (1, .int p1), (2, .long p2), (4, .long p4), (6, .long p6), (8, .int p8)] []) {p0 : Nat} {p1 : Int32} {p2 : Int64} {p4 : Int64} {p8 : Int32} {s0 : Int64} {h : zH} (hf : f_X6_nationalShare_b123 E k57 p0 p1 p2 p4 p8 s0 h = some (r, h')) : zW p l e R s m args below meth c D B0 11 (zEnd D B0 R below args s (zoL r) h') h 123 [(0, .ref p0), (1, .int p1), (2, .long p2), (4, .long p4), (8, .int p8)] [.long s0] := by
  unfold f_X6_nationalShare_b123 at hf
  refine zr_lconst C0 (v := 1) dX6_nationalShare_123 (by decide) ?_
  refine zr_goto C0 (tgt := 128) dX6_nationalShare_124 (by decide) ?_
  exact w_X6_nationalShare_b128 C0 hk57 hf
def f_X6_nationalShare_b127 (E : zE) (k57 : Nat → Int32 → Int64 → Int64 → Int64 → Int32 → zH → Option (Int64 × zH)) (p0 : Nat) (p1 : Int32) (p2 : Int64) (p4 : Int64) (p8 : Int32) (s0 : Int64) (h : zH) : Option (Int64 × zH) :=
  f_X6_nationalShare_b128 E k57 p0 p1 p2 p4 p8 s0 (0 : Int64) h
theorem w_X6_nationalShare_b127 (C0 : zCx p l e R s m args below meth c D B0 11 "FranchiseLedgerModel" cX6_nationalShare E 3 106 (Option.some Jvm.ClassFile.FieldType.long) "nationalShare") {r : Int64} {h' : zH} {k57 : Nat → Int32 → Int64 → Int64 → Int64 → Int32 → zH → Option (Int64 × zH)} (hk57 : ∀ (p0 : Nat) (p1 : Int32) (p2 : Int64) (p4 : Int64) (p6 : Int64) (p8 : Int32) (h : zH), k57 p0 p1 p2 p4 p6 p8 h = some (r, h') → zW p l e R s m args below meth c D B0 11 (zEnd D B0 R below args s (zoL r) h') h 57 [(0, .ref p0), (1, .int p1), (2, .long p2), (4, .long p4), (6, .long p6), (8, .int p8)] []) {p0 : Nat} {p1 : Int32} {p2 : Int64} {p4 : Int64} {p8 : Int32} {s0 : Int64} {h : zH} (hf : f_X6_nationalShare_b127 E k57 p0 p1 p2 p4 p8 s0 h = some (r, h')) : zW p l e R s m args below meth c D B0 11 (zEnd D B0 R below args s (zoL r) h') h 127 [(0, .ref p0), (1, .int p1), (2, .long p2), (4, .long p4), (8, .int p8)] [.long s0] := by
  unfold f_X6_nationalShare_b127 at hf
  refine zr_lconst C0 (v := 0) dX6_nationalShare_127 (by decide) ?_
  exact w_X6_nationalShare_b128 C0 hk57 hf
def f_X6_nationalShare_l57 (E : zE) : Nat → Nat → Int32 → Int64 → Int64 → Int64 → Int32 → zH → Option (Int64 × zH)
  | 0, _, _, _, _, _, _, _ => none
  | n + 1, p0, p1, p2, p4, p6, p8, h =>
    (gR h p0 1 0).bind fun x1 =>
    (dL h x1 (2 : Int32)).bind fun x3 =>
    if x3 ≤ (p8.toInt64) then (
      (cko h p0 1).bind fun _ =>
      bnd2 (f_X6_product E p0 p1 h) fun x9 h7 =>
      (zn0L p2).bind fun _ =>
      if p4 ≤ p6 then (
        f_X6_nationalShare_b157 E (x9 / p2) (0 : Int64) h7
      ) else (
        f_X6_nationalShare_b157 E (x9 / p2) (1 : Int64) h7
      )
    ) else (
      (cko h p0 1).bind fun _ =>
      bnd2 (f_X6_product E p0 p8 h) fun x15 h13 =>
      (zn0L p2).bind fun _ =>
      (cko h13 p0 1).bind fun _ =>
      bnd2 (f_X6_product E p0 p8 h13) fun x20 h18 =>
      (zn0L p2).bind fun _ =>
      (cko h18 p0 1).bind fun _ =>
      bnd2 (f_X6_product E p0 p1 h18) fun x25 h23 =>
      (zn0L p2).bind fun _ =>
      if (0 : Int64) < ((x20 - x20 / p2 * p2) - (x25 - x25 / p2 * p2)) then (
        f_X6_nationalShare_b123 E (f_X6_nationalShare_l57 E n) p0 p1 p2 (p4 - (x15 / p2)) p8 p6 h23
      ) else (
        if ((x20 - x20 / p2 * p2) - (x25 - x25 / p2 * p2)) = (0 : Int64) then (
          if p1 ≤ p8 then (
            f_X6_nationalShare_b127 E (f_X6_nationalShare_l57 E n) p0 p1 p2 (p4 - (x15 / p2)) p8 p6 h23
          ) else (
            f_X6_nationalShare_b123 E (f_X6_nationalShare_l57 E n) p0 p1 p2 (p4 - (x15 / p2)) p8 p6 h23
          )
        ) else (
          f_X6_nationalShare_b127 E (f_X6_nationalShare_l57 E n) p0 p1 p2 (p4 - (x15 / p2)) p8 p6 h23
        )
      )
    )
theorem w_X6_nationalShare_l57 (C0 : zCx p l e R s m args below meth c D B0 11 "FranchiseLedgerModel" cX6_nationalShare E 3 106 (Option.some Jvm.ClassFile.FieldType.long) "nationalShare") {r : Int64} {h' : zH} : ∀ (n : Nat) (p0 : Nat) (p1 : Int32) (p2 : Int64) (p4 : Int64) (p6 : Int64) (p8 : Int32) (h : zH), f_X6_nationalShare_l57 E n p0 p1 p2 p4 p6 p8 h = some (r, h') → zW p l e R s m args below meth c D B0 11 (zEnd D B0 R below args s (zoL r) h') h 57 [(0, .ref p0), (1, .int p1), (2, .long p2), (4, .long p4), (6, .long p6), (8, .int p8)] [] := by
  intro n
  induction n with
  | zero =>
    intro p0 p1 p2 p4 p6 p8 h hf
    unfold f_X6_nationalShare_l57 at hf
    cases hf
  | succ n ih =>
    intro p0 p1 p2 p4 p6 p8 h hf
    unfold f_X6_nationalShare_l57 at hf
    refine zr_iload C0 dX6_nationalShare_57 5 rfl ?_
    refine zr_i2l C0 dX6_nationalShare_59 ?_
    refine zr_aload_n C0 dX6_nationalShare_60 rfl 0 rfl ?_
    obtain ⟨x1, e2, hf⟩ := zbind hf
    refine zr_get C0 fl_X6_9_X6 dX6_nationalShare_61 (zgR e2) ?_
    refine zr_iconst C0 (v := 2) dX6_nationalShare_64 (by decide) ?_
    obtain ⟨x3, e4, hf⟩ := zbind hf
    refine zr_lald C0 dX6_nationalShare_65 e4 ?_
    refine zr_lcmp C0 dX6_nationalShare_66 ?_
    refine zr_if_ge C0 (tgt := 137) dX6_nationalShare_67 (by decide) (fun c5 => ?_) (fun c5 => ?_)
    · have hf := zif_t (zl_ge.mp c5) hf
      refine zr_aload_n C0 dX6_nationalShare_137 rfl 0 rfl ?_
      refine zr_iload_n C0 dX6_nationalShare_138 rfl 1 rfl ?_
      obtain ⟨_, e6, hf⟩ := zbind hf
      obtain ⟨x9, h7, e8, hf⟩ := zbind2 hf
      refine zr_callV_r C0 cv_X6_259_X6 rfl (zcko e6) (m_X6_product C0.2.2.2.2.2.2.1 e8) (by decide) (by decide) rfl rfl (Nat.le_of_ble_eq_true rfl) dX6_nationalShare_139 rfl ?_
      refine zr_lload_n C0 dX6_nationalShare_142 rfl 2 rfl ?_
      obtain ⟨_, e10, hf⟩ := zbind hf
      refine zr_ldiv C0 dX6_nationalShare_143 (zn0L_ne e10) ?_
      refine zr_lload C0 dX6_nationalShare_144 4 rfl ?_
      refine zr_lload C0 dX6_nationalShare_146 3 rfl ?_
      refine zr_lcmp C0 dX6_nationalShare_148 ?_
      refine zr_if_ge C0 (tgt := 156) dX6_nationalShare_149 (by decide) (fun c11 => ?_) (fun c11 => ?_)
      · have hf := zif_t (zl_ge.mp c11) hf
        refine zr_lconst C0 (v := 0) dX6_nationalShare_156 (by decide) ?_
        refine zr_sub [] rfl ?_
        exact w_X6_nationalShare_b157 C0 hf
      · have hf := zif_f (zl_gen.mp c11) hf
        refine zr_lconst C0 (v := 1) dX6_nationalShare_152 (by decide) ?_
        refine zr_goto C0 (tgt := 157) dX6_nationalShare_153 (by decide) ?_
        refine zr_sub [] rfl ?_
        exact w_X6_nationalShare_b157 C0 hf
    · have hf := zif_f (zl_gen.mp c5) hf
      refine zr_lload C0 dX6_nationalShare_70 3 rfl ?_
      refine zr_aload_n C0 dX6_nationalShare_72 rfl 0 rfl ?_
      refine zr_iload C0 dX6_nationalShare_73 5 rfl ?_
      obtain ⟨_, e12, hf⟩ := zbind hf
      obtain ⟨x15, h13, e14, hf⟩ := zbind2 hf
      refine zr_callV_r C0 cv_X6_259_X6 rfl (zcko e12) (m_X6_product C0.2.2.2.2.2.2.1 e14) (by decide) (by decide) rfl rfl (Nat.le_of_ble_eq_true rfl) dX6_nationalShare_75 rfl ?_
      refine zr_lload_n C0 dX6_nationalShare_78 rfl 2 rfl ?_
      obtain ⟨_, e16, hf⟩ := zbind hf
      refine zr_ldiv C0 dX6_nationalShare_79 (zn0L_ne e16) ?_
      refine zr_lsub C0 dX6_nationalShare_80 ?_
      refine zr_lstore (i := 4) (lv' := [(4, .long (p4 - (x15 / p2))), (0, .ref p0), (1, .int p1), (2, .long p2), (6, .long p6), (8, .int p8)]) C0 dX6_nationalShare_81 (by decide) (by first | rfl | simp [zst1, zst2, zcat_rf]) ?_
      refine zr_aload_n C0 dX6_nationalShare_83 rfl 1 rfl ?_
      refine zr_iload C0 dX6_nationalShare_84 5 rfl ?_
      obtain ⟨_, e17, hf⟩ := zbind hf
      obtain ⟨x20, h18, e19, hf⟩ := zbind2 hf
      refine zr_callV_r C0 cv_X6_259_X6 rfl (zcko e17) (m_X6_product C0.2.2.2.2.2.2.1 e19) (by decide) (by decide) rfl rfl (Nat.le_of_ble_eq_true rfl) dX6_nationalShare_86 rfl ?_
      refine zr_lload_n C0 dX6_nationalShare_89 rfl 3 rfl ?_
      obtain ⟨_, e21, hf⟩ := zbind hf
      refine zr_lrem C0 dX6_nationalShare_90 (zn0L_ne e21) ?_
      refine zr_aload_n C0 dX6_nationalShare_91 rfl 1 rfl ?_
      refine zr_iload_n C0 dX6_nationalShare_92 rfl 2 rfl ?_
      obtain ⟨_, e22, hf⟩ := zbind hf
      obtain ⟨x25, h23, e24, hf⟩ := zbind2 hf
      refine zr_callV_r C0 cv_X6_259_X6 rfl (zcko e22) (m_X6_product C0.2.2.2.2.2.2.1 e24) (by decide) (by decide) rfl rfl (Nat.le_of_ble_eq_true rfl) dX6_nationalShare_93 rfl ?_
      refine zr_lload_n C0 dX6_nationalShare_96 rfl 3 rfl ?_
      obtain ⟨_, e26, hf⟩ := zbind hf
      refine zr_lrem C0 dX6_nationalShare_97 (zn0L_ne e26) ?_
      refine zr_lsub C0 dX6_nationalShare_98 ?_
      refine zr_lstore (i := 9) (lv' := [(9, .long ((x20 - x20 / p2 * p2) - (x25 - x25 / p2 * p2))), (4, .long (p4 - (x15 / p2))), (0, .ref p0), (1, .int p1), (2, .long p2), (6, .long p6), (8, .int p8)]) C0 dX6_nationalShare_99 (by decide) (by first | rfl | simp [zst1, zst2, zcat_rf]) ?_
      refine zr_lload C0 dX6_nationalShare_101 5 rfl ?_
      refine zr_lload C0 dX6_nationalShare_103 0 rfl ?_
      refine zr_lconst C0 (v := 0) dX6_nationalShare_105 (by decide) ?_
      refine zr_lcmp C0 dX6_nationalShare_106 ?_
      refine zr_if_gt C0 (tgt := 123) dX6_nationalShare_107 (by decide) (fun c27 => ?_) (fun c27 => ?_)
      · have hf := zif_t (zl_gt.mp c27) hf
        refine zr_sub [2, 3, 4, 1, 6] rfl ?_
        exact w_X6_nationalShare_b123 C0 ih hf
      · have hf := zif_f (zl_gtn.mp c27) hf
        refine zr_lload C0 dX6_nationalShare_110 0 rfl ?_
        refine zr_lconst C0 (v := 0) dX6_nationalShare_112 (by decide) ?_
        refine zr_lcmp C0 dX6_nationalShare_113 ?_
        refine zr_if_ne C0 (tgt := 127) dX6_nationalShare_114 (by decide) (fun c28 => ?_) (fun c28 => ?_)
        · have hf := zif_f (zl_ne.mp c28) hf
          refine zr_sub [2, 3, 4, 1, 6] rfl ?_
          exact w_X6_nationalShare_b127 C0 ih hf
        · have hf := zif_t (zl_nen.mp c28) hf
          refine zr_iload C0 dX6_nationalShare_117 6 rfl ?_
          refine zr_iload_n C0 dX6_nationalShare_119 rfl 3 rfl ?_
          refine zr_icmp_ge C0 (tgt := 127) dX6_nationalShare_120 (by decide) (fun c29 => ?_) (fun c29 => ?_)
          · have hf := zif_t c29 hf
            refine zr_sub [2, 3, 4, 1, 6] rfl ?_
            exact w_X6_nationalShare_b127 C0 ih hf
          · have hf := zif_f c29 hf
            refine zr_sub [2, 3, 4, 1, 6] rfl ?_
            exact w_X6_nationalShare_b123 C0 ih hf
def f_X6_nationalShare_b19 (E : zE) (p0 : Nat) (p1 : Int32) (s0 : Nat) (s1 : Int32) (h : zH) : Option (Int64 × zH) :=
  (cko h s0 1).bind fun _ =>
  bnd2 (f_X6_throwsIf E s0 s1 (1 : Int32) h) fun x4 h2 =>
  if x4 = 0 then (
    (cko h2 p0 1).bind fun _ =>
    bnd2 (f_X6_allContributions E p0 h2) fun x9 h7 =>
    if x9 = (0 : Int64) then (
      f_X6_nationalShare_b35 E  h7
    ) else (
      (cko h7 p0 1).bind fun _ =>
      bnd2 (f_X6_allContributions E p0 h7) fun x14 h12 =>
      (gR h12 p0 1 0).bind fun x15 =>
      (dL h12 x15 (12 : Int32)).bind fun x17 =>
      f_X6_nationalShare_l57 E E.1 p0 p1 x14 x17 (0 : Int64) (0 : Int32) h12
    )
  ) else (
    f_X6_nationalShare_b35 E  h2
  )
theorem w_X6_nationalShare_b19 (C0 : zCx p l e R s m args below meth c D B0 11 "FranchiseLedgerModel" cX6_nationalShare E 3 106 (Option.some Jvm.ClassFile.FieldType.long) "nationalShare") {r : Int64} {h' : zH} {p0 : Nat} {p1 : Int32} {s0 : Nat} {s1 : Int32} {h : zH} (hf : f_X6_nationalShare_b19 E p0 p1 s0 s1 h = some (r, h')) : zW p l e R s m args below meth c D B0 11 (zEnd D B0 R below args s (zoL r) h') h 19 [(0, .ref p0), (1, .int p1)] [.int s1, .ref s0] := by
  unfold f_X6_nationalShare_b19 at hf
  refine zr_iconst C0 (v := 1) dX6_nationalShare_19 (by decide) ?_
  obtain ⟨_, e1, hf⟩ := zbind hf
  obtain ⟨x4, h2, e3, hf⟩ := zbind2 hf
  refine zr_callV_r C0 cv_X6_81_X6 rfl (zcko e1) (m_X6_throwsIf C0.2.2.2.2.2.2.1 e3) (by decide) (by decide) rfl rfl (Nat.le_of_ble_eq_true rfl) dX6_nationalShare_20 rfl ?_
  refine zr_if_ne C0 (tgt := 35) dX6_nationalShare_23 (by decide) (fun c5 => ?_) (fun c5 => ?_)
  · have hf := zif_f c5 hf
    refine zr_sub [] rfl ?_
    exact w_X6_nationalShare_b35 C0 hf
  · have hf := zif_t c5 hf
    refine zr_aload_n C0 dX6_nationalShare_26 rfl 0 rfl ?_
    obtain ⟨_, e6, hf⟩ := zbind hf
    obtain ⟨x9, h7, e8, hf⟩ := zbind2 hf
    refine zr_callV_r C0 cv_X6_249_X6 rfl (zcko e6) (m_X6_allContributions C0.2.2.2.2.2.2.1 e8) (by decide) (by decide) rfl rfl (Nat.le_of_ble_eq_true rfl) dX6_nationalShare_27 rfl ?_
    refine zr_lconst C0 (v := 0) dX6_nationalShare_30 (by decide) ?_
    refine zr_lcmp C0 dX6_nationalShare_31 ?_
    refine zr_if_ne C0 (tgt := 37) dX6_nationalShare_32 (by decide) (fun c10 => ?_) (fun c10 => ?_)
    · have hf := zif_f (zl_ne.mp c10) hf
      refine zr_aload_n C0 dX6_nationalShare_37 rfl 0 rfl ?_
      obtain ⟨_, e11, hf⟩ := zbind hf
      obtain ⟨x14, h12, e13, hf⟩ := zbind2 hf
      refine zr_callV_r C0 cv_X6_249_X6 rfl (zcko e11) (m_X6_allContributions C0.2.2.2.2.2.2.1 e13) (by decide) (by decide) rfl rfl (Nat.le_of_ble_eq_true rfl) dX6_nationalShare_38 rfl ?_
      refine zr_lstore_n (i := 2) (lv' := [(2, .long x14), (0, .ref p0), (1, .int p1)]) C0 dX6_nationalShare_41 rfl (by decide) (by first | rfl | simp [zst1, zst2, zcat_rf]) ?_
      refine zr_aload_n C0 dX6_nationalShare_42 rfl 1 rfl ?_
      obtain ⟨x15, e16, hf⟩ := zbind hf
      refine zr_get C0 fl_X6_9_X6 dX6_nationalShare_43 (zgR e16) ?_
      refine zr_bipush C0 (v := 12) dX6_nationalShare_46 (by decide) ?_
      obtain ⟨x17, e18, hf⟩ := zbind hf
      refine zr_lald C0 dX6_nationalShare_48 e18 ?_
      refine zr_lstore (i := 4) (lv' := [(4, .long x17), (2, .long x14), (0, .ref p0), (1, .int p1)]) C0 dX6_nationalShare_49 (by decide) (by first | rfl | simp [zst1, zst2, zcat_rf]) ?_
      refine zr_lconst C0 (v := 0) dX6_nationalShare_51 (by decide) ?_
      refine zr_lstore (i := 6) (lv' := [(6, .long (0 : Int64)), (4, .long x17), (2, .long x14), (0, .ref p0), (1, .int p1)]) C0 dX6_nationalShare_52 (by decide) (by first | rfl | simp [zst1, zst2, zcat_rf]) ?_
      refine zr_iconst C0 (v := 0) dX6_nationalShare_54 (by decide) ?_
      refine zr_istore (i := 8) (lv' := [(8, .int (0 : Int32)), (6, .long (0 : Int64)), (4, .long x17), (2, .long x14), (0, .ref p0), (1, .int p1)]) C0 dX6_nationalShare_55 (by decide) (by first | rfl | simp [zst1, zst2, zcat_rf]) ?_
      refine zr_sub [4, 5, 3, 2, 1, 0] rfl ?_
      exact w_X6_nationalShare_l57 C0 _ _ _ _ _ _ _ _ hf
    · have hf := zif_t (zl_nen.mp c10) hf
      refine zr_sub [] rfl ?_
      exact w_X6_nationalShare_b35 C0 hf
def f_X6_nationalShare_b0 (E : zE) (p0 : Nat) (p1 : Int32) (h : zH) : Option (Int64 × zH) :=
  (pF h p0 1 2 (.int (0 : Int32))).bind fun h1 =>
  (cko h1 p0 1).bind fun _ =>
  bnd2 (f_X6_isFranchisee E p0 p1 h1) fun x6 h4 =>
  if x6 = 0 then (
    f_X6_nationalShare_b19 E p0 p1 p0 (1 : Int32) h4
  ) else (
    f_X6_nationalShare_b19 E p0 p1 p0 (0 : Int32) h4
  )
theorem w_X6_nationalShare_b0 (C0 : zCx p l e R s m args below meth c D B0 11 "FranchiseLedgerModel" cX6_nationalShare E 3 106 (Option.some Jvm.ClassFile.FieldType.long) "nationalShare") {r : Int64} {h' : zH} {p0 : Nat} {p1 : Int32} {h : zH} (hf : f_X6_nationalShare_b0 E p0 p1 h = some (r, h')) : zW p l e R s m args below meth c D B0 11 (zEnd D B0 R below args s (zoL r) h') h 0 [(0, .ref p0), (1, .int p1)] [] := by
  unfold f_X6_nationalShare_b0 at hf
  refine zr_aload_n C0 dX6_nationalShare_0 rfl 0 rfl ?_
  refine zr_iconst C0 (v := 0) dX6_nationalShare_1 (by decide) ?_
  obtain ⟨h1, e2, hf⟩ := zbind hf
  refine zr_put C0 pl_X6_50_X6 dX6_nationalShare_2 (fun h => by cases h) rfl rfl e2 ?_
  refine zr_aload_n C0 dX6_nationalShare_5 rfl 0 rfl ?_
  refine zr_aload_n C0 dX6_nationalShare_6 rfl 0 rfl ?_
  refine zr_iload_n C0 dX6_nationalShare_7 rfl 1 rfl ?_
  obtain ⟨_, e3, hf⟩ := zbind hf
  obtain ⟨x6, h4, e5, hf⟩ := zbind2 hf
  refine zr_callV_r C0 cv_X6_85_X6 rfl (zcko e3) (m_X6_isFranchisee C0.2.2.2.2.2.2.1 e5) (by decide) (by decide) rfl rfl (Nat.le_of_ble_eq_true rfl) dX6_nationalShare_8 rfl ?_
  refine zr_if_ne C0 (tgt := 18) dX6_nationalShare_11 (by decide) (fun c7 => ?_) (fun c7 => ?_)
  · have hf := zif_f c7 hf
    refine zr_iconst C0 (v := 0) dX6_nationalShare_18 (by decide) ?_
    exact w_X6_nationalShare_b19 C0 hf
  · have hf := zif_t c7 hf
    refine zr_iconst C0 (v := 1) dX6_nationalShare_14 (by decide) ?_
    refine zr_goto C0 (tgt := 19) dX6_nationalShare_15 (by decide) ?_
    exact w_X6_nationalShare_b19 C0 hf
def f_X6_nationalShare (E : zE) (p0 : Nat) (p1 : Int32) (h : zH) : Option (Int64 × zH) := f_X6_nationalShare_b0 E p0 p1 h
theorem m_X6_nationalShare {l : Launch} (hst : l.stackTraces = false) {D : zD} {B0 : Nat} {E : zE} {p0 : Nat} {p1 : Int32} {h h' : zH} {r : Int64} (hf : f_X6_nationalShare E p0 p1 h = some (r, h')) : zMet l yX6_nationalShare (ws_ yX6_nationalShare cX6_nationalShare 11 (Option.some Jvm.ClassFile.FieldType.long)) 3 106 D B0 E [.ref p0, .int p1] h (zoL r) h' := by
  unfold f_X6_nationalShare at hf
  refine zMet_of hst (by decide +kernel) rfl rfl (Nat.le_of_ble_eq_true rfl) (fun p e R s m below meth c C0 hno => ?_)
  show zW _ _ _ _ _ _ _ _ _ _ _ _ _ _ _ _ [(0, .ref p0), (1, .int p1)] []
  exact w_X6_nationalShare_b0 C0 hf
def f_X6_requestTransfer_b62 (E : zE) (h : zH) : Option (Int32 × zH) :=
  some ((0 : Int32), h)
theorem w_X6_requestTransfer_b62 (C0 : zCx p l e R s m args below meth c D B0 5 "FranchiseLedgerModel" cX6_requestTransfer E 3 106 (Option.some Jvm.ClassFile.FieldType.boolean) "requestTransfer") {r : Int32} {h' : zH} {h : zH} (hf : f_X6_requestTransfer_b62 E  h = some (r, h')) : zW p l e R s m args below meth c D B0 5 (zEnd D B0 R below args s (zoI r) h') h 62 [] [] := by
  unfold f_X6_requestTransfer_b62 at hf
  refine zr_iconst C0 (v := 0) dX6_requestTransfer_62 (by decide) ?_
  refine zretW hf ?_
  exact zr_iret C0 (ty := .boolean) rfl (by decide) dX6_requestTransfer_63 rfl
def f_X6_requestTransfer_b104 (E : zE) (h : zH) : Option (Int32 × zH) :=
  some ((0 : Int32), h)
theorem w_X6_requestTransfer_b104 (C0 : zCx p l e R s m args below meth c D B0 5 "FranchiseLedgerModel" cX6_requestTransfer E 3 106 (Option.some Jvm.ClassFile.FieldType.boolean) "requestTransfer") {r : Int32} {h' : zH} {h : zH} (hf : f_X6_requestTransfer_b104 E  h = some (r, h')) : zW p l e R s m args below meth c D B0 5 (zEnd D B0 R below args s (zoI r) h') h 104 [] [] := by
  unfold f_X6_requestTransfer_b104 at hf
  refine zr_iconst C0 (v := 0) dX6_requestTransfer_104 (by decide) ?_
  refine zretW hf ?_
  exact zr_iret C0 (ty := .boolean) rfl (by decide) dX6_requestTransfer_105 rfl
def f_X6_requestTransfer_b55 (E : zE) (p0 : Nat) (p1 : Int32) (p2 : Int32) (p3 : Int64) (s0 : Nat) (s1 : Int32) (h : zH) : Option (Int32 × zH) :=
  (cko h s0 1).bind fun _ =>
  bnd2 (f_X6_throwsIf E s0 s1 (2 : Int32) h) fun x4 h2 =>
  if x4 = 0 then (
    (cko h2 p0 1).bind fun _ =>
    bnd2 (f_X6_isActive E p0 p1 h2) fun x9 h7 =>
    if x9 = 0 then (
      f_X6_requestTransfer_b104 E  h7
    ) else (
      (cko h7 p0 1).bind fun _ =>
      bnd2 (f_X6_isOpenTransfer E p0 p1 h7) fun x14 h12 =>
      if x14 = 0 then (
        (cko h12 p0 1).bind fun _ =>
        bnd2 (f_X6_of E p0 p1 (4 : Int32) h12) fun x19 h17 =>
        if (0 : Int64) < x19 then (
          f_X6_requestTransfer_b104 E  h17
        ) else (
          (gR h17 p0 1 0).bind fun x21 =>
          (dL h17 x21 (10 : Int32)).bind fun x23 =>
          if x23 ≤ (p2.toInt64) then (
            (cko h17 p0 1).bind fun _ =>
            bnd2 (f_X6_set E p0 p1 (9 : Int32) (1 : Int64) h17) fun x29 h27 =>
            (cko h27 p0 1).bind fun _ =>
            bnd2 (f_X6_set E p0 p1 (10 : Int32) (p2.toInt64) h27) fun x33 h31 =>
            (cko h31 p0 1).bind fun _ =>
            bnd2 (f_X6_set E p0 p1 (11 : Int32) p3 h31) fun x37 h35 =>
            (gR h35 p0 1 0).bind fun x38 =>
            (dL h35 x38 (0 : Int32)).bind fun x40 =>
            (cko h35 p0 1).bind fun _ =>
            bnd2 (f_X6_set E p0 p1 (12 : Int32) x40 h35) fun x45 h43 =>
            (cko h43 p0 1).bind fun _ =>
            bnd2 (f_X6_set E p0 p1 (13 : Int32) (0 : Int64) h43) fun x49 h47 =>
            (cko h47 p0 1).bind fun _ =>
            bnd2 (f_X6_set E p0 p1 (14 : Int32) (0 : Int64) h47) fun x53 h51 =>
            (cko h51 p0 1).bind fun _ =>
            bnd2 (f_X6_set E p0 p1 (15 : Int32) (0 : Int64) h51) fun x57 h55 =>
            some ((1 : Int32), h55)
          ) else (
            f_X6_requestTransfer_b104 E  h17
          )
        )
      ) else (
        f_X6_requestTransfer_b104 E  h12
      )
    )
  ) else (
    f_X6_requestTransfer_b62 E  h2
  )
theorem w_X6_requestTransfer_b55 (C0 : zCx p l e R s m args below meth c D B0 5 "FranchiseLedgerModel" cX6_requestTransfer E 3 106 (Option.some Jvm.ClassFile.FieldType.boolean) "requestTransfer") {r : Int32} {h' : zH} {p0 : Nat} {p1 : Int32} {p2 : Int32} {p3 : Int64} {s0 : Nat} {s1 : Int32} {h : zH} (hf : f_X6_requestTransfer_b55 E p0 p1 p2 p3 s0 s1 h = some (r, h')) : zW p l e R s m args below meth c D B0 5 (zEnd D B0 R below args s (zoI r) h') h 55 [(0, .ref p0), (1, .int p1), (2, .int p2), (3, .long p3)] [.int s1, .ref s0] := by
  unfold f_X6_requestTransfer_b55 at hf
  refine zr_iconst C0 (v := 2) dX6_requestTransfer_55 (by decide) ?_
  obtain ⟨_, e1, hf⟩ := zbind hf
  obtain ⟨x4, h2, e3, hf⟩ := zbind2 hf
  refine zr_callV_r C0 cv_X6_81_X6 rfl (zcko e1) (m_X6_throwsIf C0.2.2.2.2.2.2.1 e3) (by decide) (by decide) rfl rfl (Nat.le_of_ble_eq_true rfl) dX6_requestTransfer_56 rfl ?_
  refine zr_if_eq C0 (tgt := 64) dX6_requestTransfer_59 (by decide) (fun c5 => ?_) (fun c5 => ?_)
  · have hf := zif_t c5 hf
    refine zr_aload_n C0 dX6_requestTransfer_64 rfl 0 rfl ?_
    refine zr_iload_n C0 dX6_requestTransfer_65 rfl 1 rfl ?_
    obtain ⟨_, e6, hf⟩ := zbind hf
    obtain ⟨x9, h7, e8, hf⟩ := zbind2 hf
    refine zr_callV_r C0 cv_X6_128_X6 rfl (zcko e6) (m_X6_isActive C0.2.2.2.2.2.2.1 e8) (by decide) (by decide) rfl rfl (Nat.le_of_ble_eq_true rfl) dX6_requestTransfer_66 rfl ?_
    refine zr_if_eq C0 (tgt := 104) dX6_requestTransfer_69 (by decide) (fun c10 => ?_) (fun c10 => ?_)
    · have hf := zif_t c10 hf
      refine zr_sub [] rfl ?_
      exact w_X6_requestTransfer_b104 C0 hf
    · have hf := zif_f c10 hf
      refine zr_aload_n C0 dX6_requestTransfer_72 rfl 0 rfl ?_
      refine zr_iload_n C0 dX6_requestTransfer_73 rfl 1 rfl ?_
      obtain ⟨_, e11, hf⟩ := zbind hf
      obtain ⟨x14, h12, e13, hf⟩ := zbind2 hf
      refine zr_callV_r C0 cv_X6_246_X6 rfl (zcko e11) (m_X6_isOpenTransfer C0.2.2.2.2.2.2.1 e13) (by decide) (by decide) rfl rfl (Nat.le_of_ble_eq_true rfl) dX6_requestTransfer_74 rfl ?_
      refine zr_if_ne C0 (tgt := 104) dX6_requestTransfer_77 (by decide) (fun c15 => ?_) (fun c15 => ?_)
      · have hf := zif_f c15 hf
        refine zr_sub [] rfl ?_
        exact w_X6_requestTransfer_b104 C0 hf
      · have hf := zif_t c15 hf
        refine zr_aload_n C0 dX6_requestTransfer_80 rfl 0 rfl ?_
        refine zr_iload_n C0 dX6_requestTransfer_81 rfl 1 rfl ?_
        refine zr_iconst C0 (v := 4) dX6_requestTransfer_82 (by decide) ?_
        obtain ⟨_, e16, hf⟩ := zbind hf
        obtain ⟨x19, h17, e18, hf⟩ := zbind2 hf
        refine zr_callV_r C0 cv_X6_63_X6 rfl (zcko e16) (m_X6_of C0.2.2.2.2.2.2.1 e18) (by decide) (by decide) rfl rfl (Nat.le_of_ble_eq_true rfl) dX6_requestTransfer_83 rfl ?_
        refine zr_lconst C0 (v := 0) dX6_requestTransfer_86 (by decide) ?_
        refine zr_lcmp C0 dX6_requestTransfer_87 ?_
        refine zr_if_gt C0 (tgt := 104) dX6_requestTransfer_88 (by decide) (fun c20 => ?_) (fun c20 => ?_)
        · have hf := zif_t (zl_gt.mp c20) hf
          refine zr_sub [] rfl ?_
          exact w_X6_requestTransfer_b104 C0 hf
        · have hf := zif_f (zl_gtn.mp c20) hf
          refine zr_iload_n C0 dX6_requestTransfer_91 rfl 2 rfl ?_
          refine zr_i2l C0 dX6_requestTransfer_92 ?_
          refine zr_aload_n C0 dX6_requestTransfer_93 rfl 0 rfl ?_
          obtain ⟨x21, e22, hf⟩ := zbind hf
          refine zr_get C0 fl_X6_9_X6 dX6_requestTransfer_94 (zgR e22) ?_
          refine zr_bipush C0 (v := 10) dX6_requestTransfer_97 (by decide) ?_
          obtain ⟨x23, e24, hf⟩ := zbind hf
          refine zr_lald C0 dX6_requestTransfer_99 e24 ?_
          refine zr_lcmp C0 dX6_requestTransfer_100 ?_
          refine zr_if_ge C0 (tgt := 106) dX6_requestTransfer_101 (by decide) (fun c25 => ?_) (fun c25 => ?_)
          · have hf := zif_t (zl_ge.mp c25) hf
            refine zr_aload_n C0 dX6_requestTransfer_106 rfl 0 rfl ?_
            refine zr_iload_n C0 dX6_requestTransfer_107 rfl 1 rfl ?_
            refine zr_bipush C0 (v := 9) dX6_requestTransfer_108 (by decide) ?_
            refine zr_lconst C0 (v := 1) dX6_requestTransfer_110 (by decide) ?_
            obtain ⟨_, e26, hf⟩ := zbind hf
            obtain ⟨x29, h27, e28, hf⟩ := zbind2 hf
            refine zr_callV_r C0 cv_X6_183_X6 rfl (zcko e26) (m_X6_set C0.2.2.2.2.2.2.1 e28) (by decide) (by decide) rfl rfl (Nat.le_of_ble_eq_true rfl) dX6_requestTransfer_111 rfl ?_
            refine zr_aload_n C0 dX6_requestTransfer_114 rfl 0 rfl ?_
            refine zr_iload_n C0 dX6_requestTransfer_115 rfl 1 rfl ?_
            refine zr_bipush C0 (v := 10) dX6_requestTransfer_116 (by decide) ?_
            refine zr_iload_n C0 dX6_requestTransfer_118 rfl 2 rfl ?_
            refine zr_i2l C0 dX6_requestTransfer_119 ?_
            obtain ⟨_, e30, hf⟩ := zbind hf
            obtain ⟨x33, h31, e32, hf⟩ := zbind2 hf
            refine zr_callV_r C0 cv_X6_183_X6 rfl (zcko e30) (m_X6_set C0.2.2.2.2.2.2.1 e32) (by decide) (by decide) rfl rfl (Nat.le_of_ble_eq_true rfl) dX6_requestTransfer_120 rfl ?_
            refine zr_aload_n C0 dX6_requestTransfer_123 rfl 0 rfl ?_
            refine zr_iload_n C0 dX6_requestTransfer_124 rfl 1 rfl ?_
            refine zr_bipush C0 (v := 11) dX6_requestTransfer_125 (by decide) ?_
            refine zr_lload_n C0 dX6_requestTransfer_127 rfl 3 rfl ?_
            obtain ⟨_, e34, hf⟩ := zbind hf
            obtain ⟨x37, h35, e36, hf⟩ := zbind2 hf
            refine zr_callV_r C0 cv_X6_183_X6 rfl (zcko e34) (m_X6_set C0.2.2.2.2.2.2.1 e36) (by decide) (by decide) rfl rfl (Nat.le_of_ble_eq_true rfl) dX6_requestTransfer_128 rfl ?_
            refine zr_aload_n C0 dX6_requestTransfer_131 rfl 0 rfl ?_
            refine zr_iload_n C0 dX6_requestTransfer_132 rfl 1 rfl ?_
            refine zr_bipush C0 (v := 12) dX6_requestTransfer_133 (by decide) ?_
            refine zr_aload_n C0 dX6_requestTransfer_135 rfl 0 rfl ?_
            obtain ⟨x38, e39, hf⟩ := zbind hf
            refine zr_get C0 fl_X6_9_X6 dX6_requestTransfer_136 (zgR e39) ?_
            refine zr_iconst C0 (v := 0) dX6_requestTransfer_139 (by decide) ?_
            obtain ⟨x40, e41, hf⟩ := zbind hf
            refine zr_lald C0 dX6_requestTransfer_140 e41 ?_
            obtain ⟨_, e42, hf⟩ := zbind hf
            obtain ⟨x45, h43, e44, hf⟩ := zbind2 hf
            refine zr_callV_r C0 cv_X6_183_X6 rfl (zcko e42) (m_X6_set C0.2.2.2.2.2.2.1 e44) (by decide) (by decide) rfl rfl (Nat.le_of_ble_eq_true rfl) dX6_requestTransfer_141 rfl ?_
            refine zr_aload_n C0 dX6_requestTransfer_144 rfl 0 rfl ?_
            refine zr_iload_n C0 dX6_requestTransfer_145 rfl 1 rfl ?_
            refine zr_bipush C0 (v := 13) dX6_requestTransfer_146 (by decide) ?_
            refine zr_lconst C0 (v := 0) dX6_requestTransfer_148 (by decide) ?_
            obtain ⟨_, e46, hf⟩ := zbind hf
            obtain ⟨x49, h47, e48, hf⟩ := zbind2 hf
            refine zr_callV_r C0 cv_X6_183_X6 rfl (zcko e46) (m_X6_set C0.2.2.2.2.2.2.1 e48) (by decide) (by decide) rfl rfl (Nat.le_of_ble_eq_true rfl) dX6_requestTransfer_149 rfl ?_
            refine zr_aload_n C0 dX6_requestTransfer_152 rfl 0 rfl ?_
            refine zr_iload_n C0 dX6_requestTransfer_153 rfl 1 rfl ?_
            refine zr_bipush C0 (v := 14) dX6_requestTransfer_154 (by decide) ?_
            refine zr_lconst C0 (v := 0) dX6_requestTransfer_156 (by decide) ?_
            obtain ⟨_, e50, hf⟩ := zbind hf
            obtain ⟨x53, h51, e52, hf⟩ := zbind2 hf
            refine zr_callV_r C0 cv_X6_183_X6 rfl (zcko e50) (m_X6_set C0.2.2.2.2.2.2.1 e52) (by decide) (by decide) rfl rfl (Nat.le_of_ble_eq_true rfl) dX6_requestTransfer_157 rfl ?_
            refine zr_aload_n C0 dX6_requestTransfer_160 rfl 0 rfl ?_
            refine zr_iload_n C0 dX6_requestTransfer_161 rfl 1 rfl ?_
            refine zr_bipush C0 (v := 15) dX6_requestTransfer_162 (by decide) ?_
            refine zr_lconst C0 (v := 0) dX6_requestTransfer_164 (by decide) ?_
            obtain ⟨_, e54, hf⟩ := zbind hf
            obtain ⟨x57, h55, e56, hf⟩ := zbind2 hf
            refine zr_callV_r C0 cv_X6_183_X6 rfl (zcko e54) (m_X6_set C0.2.2.2.2.2.2.1 e56) (by decide) (by decide) rfl rfl (Nat.le_of_ble_eq_true rfl) dX6_requestTransfer_165 rfl ?_
            refine zr_iconst C0 (v := 1) dX6_requestTransfer_168 (by decide) ?_
            refine zretW hf ?_
            exact zr_iret C0 (ty := .boolean) rfl (by decide) dX6_requestTransfer_169 rfl
          · have hf := zif_f (zl_gen.mp c25) hf
            refine zr_sub [] rfl ?_
            exact w_X6_requestTransfer_b104 C0 hf
  · have hf := zif_f c5 hf
    refine zr_sub [] rfl ?_
    exact w_X6_requestTransfer_b62 C0 hf
def f_X6_requestTransfer_b50 (E : zE) (p0 : Nat) (p1 : Int32) (p2 : Int32) (p3 : Int64) (s0 : Nat) (h : zH) : Option (Int32 × zH) :=
  f_X6_requestTransfer_b55 E p0 p1 p2 p3 s0 (1 : Int32) h
theorem w_X6_requestTransfer_b50 (C0 : zCx p l e R s m args below meth c D B0 5 "FranchiseLedgerModel" cX6_requestTransfer E 3 106 (Option.some Jvm.ClassFile.FieldType.boolean) "requestTransfer") {r : Int32} {h' : zH} {p0 : Nat} {p1 : Int32} {p2 : Int32} {p3 : Int64} {s0 : Nat} {h : zH} (hf : f_X6_requestTransfer_b50 E p0 p1 p2 p3 s0 h = some (r, h')) : zW p l e R s m args below meth c D B0 5 (zEnd D B0 R below args s (zoI r) h') h 50 [(0, .ref p0), (1, .int p1), (2, .int p2), (3, .long p3)] [.ref s0] := by
  unfold f_X6_requestTransfer_b50 at hf
  refine zr_iconst C0 (v := 1) dX6_requestTransfer_50 (by decide) ?_
  refine zr_goto C0 (tgt := 55) dX6_requestTransfer_51 (by decide) ?_
  exact w_X6_requestTransfer_b55 C0 hf
def f_X6_requestTransfer_b19 (E : zE) (p0 : Nat) (p1 : Int32) (p2 : Int32) (p3 : Int64) (s0 : Nat) (s1 : Int32) (h : zH) : Option (Int32 × zH) :=
  (cko h s0 1).bind fun _ =>
  bnd2 (f_X6_throwsIf E s0 s1 (1 : Int32) h) fun x4 h2 =>
  if x4 = 0 then (
    bnd2 (f_X6_inRange E (p2.toInt64) (0 : Int64) (999 : Int64) h2) fun x8 h6 =>
    if x8 = 0 then (
      f_X6_requestTransfer_b50 E p0 p1 p2 p3 p0 h6
    ) else (
      bnd2 (f_X6_inRange E p3 (0 : Int64) (1000000000 : Int64) h6) fun x12 h10 =>
      if x12 = 0 then (
        f_X6_requestTransfer_b50 E p0 p1 p2 p3 p0 h10
      ) else (
        f_X6_requestTransfer_b55 E p0 p1 p2 p3 p0 (0 : Int32) h10
      )
    )
  ) else (
    f_X6_requestTransfer_b62 E  h2
  )
theorem w_X6_requestTransfer_b19 (C0 : zCx p l e R s m args below meth c D B0 5 "FranchiseLedgerModel" cX6_requestTransfer E 3 106 (Option.some Jvm.ClassFile.FieldType.boolean) "requestTransfer") {r : Int32} {h' : zH} {p0 : Nat} {p1 : Int32} {p2 : Int32} {p3 : Int64} {s0 : Nat} {s1 : Int32} {h : zH} (hf : f_X6_requestTransfer_b19 E p0 p1 p2 p3 s0 s1 h = some (r, h')) : zW p l e R s m args below meth c D B0 5 (zEnd D B0 R below args s (zoI r) h') h 19 [(0, .ref p0), (1, .int p1), (2, .int p2), (3, .long p3)] [.int s1, .ref s0] := by
  unfold f_X6_requestTransfer_b19 at hf
  refine zr_iconst C0 (v := 1) dX6_requestTransfer_19 (by decide) ?_
  obtain ⟨_, e1, hf⟩ := zbind hf
  obtain ⟨x4, h2, e3, hf⟩ := zbind2 hf
  refine zr_callV_r C0 cv_X6_81_X6 rfl (zcko e1) (m_X6_throwsIf C0.2.2.2.2.2.2.1 e3) (by decide) (by decide) rfl rfl (Nat.le_of_ble_eq_true rfl) dX6_requestTransfer_20 rfl ?_
  refine zr_if_ne C0 (tgt := 62) dX6_requestTransfer_23 (by decide) (fun c5 => ?_) (fun c5 => ?_)
  · have hf := zif_f c5 hf
    refine zr_sub [] rfl ?_
    exact w_X6_requestTransfer_b62 C0 hf
  · have hf := zif_t c5 hf
    refine zr_aload_n C0 dX6_requestTransfer_26 rfl 0 rfl ?_
    refine zr_iload_n C0 dX6_requestTransfer_27 rfl 2 rfl ?_
    refine zr_i2l C0 dX6_requestTransfer_28 ?_
    refine zr_lconst C0 (v := 0) dX6_requestTransfer_29 (by decide) ?_
    refine zr_ldc2 C0 (v := 999) q3004 dX6_requestTransfer_30 ?_
    obtain ⟨x8, h6, e7, hf⟩ := zbind2 hf
    refine zr_callS_r C0 cv_X6_53 (m_X6_inRange C0.2.2.2.2.2.2.1 e7) (by decide) (by decide) rfl rfl (Nat.le_of_ble_eq_true rfl) dX6_requestTransfer_33 rfl ?_
    refine zr_if_eq C0 (tgt := 50) dX6_requestTransfer_36 (by decide) (fun c9 => ?_) (fun c9 => ?_)
    · have hf := zif_t c9 hf
      exact w_X6_requestTransfer_b50 C0 hf
    · have hf := zif_f c9 hf
      refine zr_lload_n C0 dX6_requestTransfer_39 rfl 3 rfl ?_
      refine zr_lconst C0 (v := 0) dX6_requestTransfer_40 (by decide) ?_
      refine zr_ldc2 C0 (v := 1000000000) q2795 dX6_requestTransfer_41 ?_
      obtain ⟨x12, h10, e11, hf⟩ := zbind2 hf
      refine zr_callS_r C0 cv_X6_53 (m_X6_inRange C0.2.2.2.2.2.2.1 e11) (by decide) (by decide) rfl rfl (Nat.le_of_ble_eq_true rfl) dX6_requestTransfer_44 rfl ?_
      refine zr_if_ne C0 (tgt := 54) dX6_requestTransfer_47 (by decide) (fun c13 => ?_) (fun c13 => ?_)
      · have hf := zif_f c13 hf
        refine zr_iconst C0 (v := 0) dX6_requestTransfer_54 (by decide) ?_
        exact w_X6_requestTransfer_b55 C0 hf
      · have hf := zif_t c13 hf
        exact w_X6_requestTransfer_b50 C0 hf
def f_X6_requestTransfer_b0 (E : zE) (p0 : Nat) (p1 : Int32) (p2 : Int32) (p3 : Int64) (h : zH) : Option (Int32 × zH) :=
  (pF h p0 1 2 (.int (0 : Int32))).bind fun h1 =>
  (cko h1 p0 1).bind fun _ =>
  bnd2 (f_X6_isFranchisee E p0 p1 h1) fun x6 h4 =>
  if x6 = 0 then (
    f_X6_requestTransfer_b19 E p0 p1 p2 p3 p0 (1 : Int32) h4
  ) else (
    f_X6_requestTransfer_b19 E p0 p1 p2 p3 p0 (0 : Int32) h4
  )
theorem w_X6_requestTransfer_b0 (C0 : zCx p l e R s m args below meth c D B0 5 "FranchiseLedgerModel" cX6_requestTransfer E 3 106 (Option.some Jvm.ClassFile.FieldType.boolean) "requestTransfer") {r : Int32} {h' : zH} {p0 : Nat} {p1 : Int32} {p2 : Int32} {p3 : Int64} {h : zH} (hf : f_X6_requestTransfer_b0 E p0 p1 p2 p3 h = some (r, h')) : zW p l e R s m args below meth c D B0 5 (zEnd D B0 R below args s (zoI r) h') h 0 [(0, .ref p0), (1, .int p1), (2, .int p2), (3, .long p3)] [] := by
  unfold f_X6_requestTransfer_b0 at hf
  refine zr_aload_n C0 dX6_requestTransfer_0 rfl 0 rfl ?_
  refine zr_iconst C0 (v := 0) dX6_requestTransfer_1 (by decide) ?_
  obtain ⟨h1, e2, hf⟩ := zbind hf
  refine zr_put C0 pl_X6_50_X6 dX6_requestTransfer_2 (fun h => by cases h) rfl rfl e2 ?_
  refine zr_aload_n C0 dX6_requestTransfer_5 rfl 0 rfl ?_
  refine zr_aload_n C0 dX6_requestTransfer_6 rfl 0 rfl ?_
  refine zr_iload_n C0 dX6_requestTransfer_7 rfl 1 rfl ?_
  obtain ⟨_, e3, hf⟩ := zbind hf
  obtain ⟨x6, h4, e5, hf⟩ := zbind2 hf
  refine zr_callV_r C0 cv_X6_85_X6 rfl (zcko e3) (m_X6_isFranchisee C0.2.2.2.2.2.2.1 e5) (by decide) (by decide) rfl rfl (Nat.le_of_ble_eq_true rfl) dX6_requestTransfer_8 rfl ?_
  refine zr_if_ne C0 (tgt := 18) dX6_requestTransfer_11 (by decide) (fun c7 => ?_) (fun c7 => ?_)
  · have hf := zif_f c7 hf
    refine zr_iconst C0 (v := 0) dX6_requestTransfer_18 (by decide) ?_
    exact w_X6_requestTransfer_b19 C0 hf
  · have hf := zif_t c7 hf
    refine zr_iconst C0 (v := 1) dX6_requestTransfer_14 (by decide) ?_
    refine zr_goto C0 (tgt := 19) dX6_requestTransfer_15 (by decide) ?_
    exact w_X6_requestTransfer_b19 C0 hf
def f_X6_requestTransfer (E : zE) (p0 : Nat) (p1 : Int32) (p2 : Int32) (p3 : Int64) (h : zH) : Option (Int32 × zH) := f_X6_requestTransfer_b0 E p0 p1 p2 p3 h
theorem m_X6_requestTransfer {l : Launch} (hst : l.stackTraces = false) {D : zD} {B0 : Nat} {E : zE} {p0 : Nat} {p1 : Int32} {p2 : Int32} {p3 : Int64} {h h' : zH} {r : Int32} (hf : f_X6_requestTransfer E p0 p1 p2 p3 h = some (r, h')) : zMet l yX6_requestTransfer (ws_ yX6_requestTransfer cX6_requestTransfer 5 (Option.some Jvm.ClassFile.FieldType.boolean)) 3 106 D B0 E [.ref p0, .int p1, .int p2, .long p3] h (zoI r) h' := by
  unfold f_X6_requestTransfer at hf
  refine zMet_of hst (by decide +kernel) rfl rfl (Nat.le_of_ble_eq_true rfl) (fun p e R s m below meth c C0 hno => ?_)
  show zW _ _ _ _ _ _ _ _ _ _ _ _ _ _ _ _ [(0, .ref p0), (1, .int p1), (2, .int p2), (3, .long p3)] []
  exact w_X6_requestTransfer_b0 C0 hf
def f_X6_vote_b51 (E : zE) (h : zH) : Option (Int32 × zH) :=
  some ((0 : Int32), h)
theorem w_X6_vote_b51 (C0 : zCx p l e R s m args below meth c D B0 4 "FranchiseLedgerModel" cX6_vote E 3 106 (Option.some Jvm.ClassFile.FieldType.int) "vote") {r : Int32} {h' : zH} {h : zH} (hf : f_X6_vote_b51 E  h = some (r, h')) : zW p l e R s m args below meth c D B0 4 (zEnd D B0 R below args s (zoI r) h') h 51 [] [] := by
  unfold f_X6_vote_b51 at hf
  refine zr_iconst C0 (v := 0) dX6_vote_51 (by decide) ?_
  refine zretW hf ?_
  exact zr_iret C0 (ty := .int) rfl rfl dX6_vote_52 rfl
def f_X6_vote_b81 (E : zE) (h : zH) : Option (Int32 × zH) :=
  some ((-1 : Int32), h)
theorem w_X6_vote_b81 (C0 : zCx p l e R s m args below meth c D B0 4 "FranchiseLedgerModel" cX6_vote E 3 106 (Option.some Jvm.ClassFile.FieldType.int) "vote") {r : Int32} {h' : zH} {h : zH} (hf : f_X6_vote_b81 E  h = some (r, h')) : zW p l e R s m args below meth c D B0 4 (zEnd D B0 R below args s (zoI r) h') h 81 [] [] := by
  unfold f_X6_vote_b81 at hf
  refine zr_iconst C0 (v := -1) dX6_vote_81 (by decide) ?_
  refine zretW hf ?_
  exact zr_iret C0 (ty := .int) rfl rfl dX6_vote_82 rfl
def f_X6_vote_b158 (E : zE) (p0 : Nat) (p1 : Int32) (h : zH) : Option (Int32 × zH) :=
  (cko h p0 1).bind fun _ =>
  bnd2 (f_X6_of E p0 p1 (9 : Int32) h) fun x4 h2 =>
  some ((x4.toInt32), h2)
theorem w_X6_vote_b158 (C0 : zCx p l e R s m args below meth c D B0 4 "FranchiseLedgerModel" cX6_vote E 3 106 (Option.some Jvm.ClassFile.FieldType.int) "vote") {r : Int32} {h' : zH} {p0 : Nat} {p1 : Int32} {h : zH} (hf : f_X6_vote_b158 E p0 p1 h = some (r, h')) : zW p l e R s m args below meth c D B0 4 (zEnd D B0 R below args s (zoI r) h') h 158 [(0, .ref p0), (1, .int p1)] [] := by
  unfold f_X6_vote_b158 at hf
  refine zr_aload_n C0 dX6_vote_158 rfl 0 rfl ?_
  refine zr_iload_n C0 dX6_vote_159 rfl 1 rfl ?_
  refine zr_bipush C0 (v := 9) dX6_vote_160 (by decide) ?_
  obtain ⟨_, e1, hf⟩ := zbind hf
  obtain ⟨x4, h2, e3, hf⟩ := zbind2 hf
  refine zr_callV_r C0 cv_X6_63_X6 rfl (zcko e1) (m_X6_of C0.2.2.2.2.2.2.1 e3) (by decide) (by decide) rfl rfl (Nat.le_of_ble_eq_true rfl) dX6_vote_162 rfl ?_
  refine zr_l2i C0 dX6_vote_165 ?_
  refine zretW hf ?_
  exact zr_iret C0 (ty := .int) rfl rfl dX6_vote_166 rfl
def f_X6_vote_b134 (E : zE) (p0 : Nat) (p1 : Int32) (h : zH) : Option (Int32 × zH) :=
  (cko h p0 1).bind fun _ =>
  bnd2 (f_X6_of E p0 p1 (15 : Int32) h) fun x4 h2 =>
  if x4 = (3 : Int64) then (
    (cko h2 p0 1).bind fun _ =>
    bnd2 (f_X6_set E p0 p1 (9 : Int32) (3 : Int64) h2) fun x9 h7 =>
    f_X6_vote_b158 E p0 p1 h7
  ) else (
    f_X6_vote_b158 E p0 p1 h2
  )
theorem w_X6_vote_b134 (C0 : zCx p l e R s m args below meth c D B0 4 "FranchiseLedgerModel" cX6_vote E 3 106 (Option.some Jvm.ClassFile.FieldType.int) "vote") {r : Int32} {h' : zH} {p0 : Nat} {p1 : Int32} {h : zH} (hf : f_X6_vote_b134 E p0 p1 h = some (r, h')) : zW p l e R s m args below meth c D B0 4 (zEnd D B0 R below args s (zoI r) h') h 134 [(0, .ref p0), (1, .int p1)] [] := by
  unfold f_X6_vote_b134 at hf
  refine zr_aload_n C0 dX6_vote_134 rfl 0 rfl ?_
  refine zr_iload_n C0 dX6_vote_135 rfl 1 rfl ?_
  refine zr_bipush C0 (v := 15) dX6_vote_136 (by decide) ?_
  obtain ⟨_, e1, hf⟩ := zbind hf
  obtain ⟨x4, h2, e3, hf⟩ := zbind2 hf
  refine zr_callV_r C0 cv_X6_63_X6 rfl (zcko e1) (m_X6_of C0.2.2.2.2.2.2.1 e3) (by decide) (by decide) rfl rfl (Nat.le_of_ble_eq_true rfl) dX6_vote_138 rfl ?_
  refine zr_ldc2 C0 (v := 3) q2947 dX6_vote_141 ?_
  refine zr_lcmp C0 dX6_vote_144 ?_
  refine zr_if_ne C0 (tgt := 158) dX6_vote_145 (by decide) (fun c5 => ?_) (fun c5 => ?_)
  · have hf := zif_f (zl_ne.mp c5) hf
    exact w_X6_vote_b158 C0 hf
  · have hf := zif_t (zl_nen.mp c5) hf
    refine zr_aload_n C0 dX6_vote_148 rfl 0 rfl ?_
    refine zr_iload_n C0 dX6_vote_149 rfl 1 rfl ?_
    refine zr_bipush C0 (v := 9) dX6_vote_150 (by decide) ?_
    refine zr_ldc2 C0 (v := 3) q2947 dX6_vote_152 ?_
    obtain ⟨_, e6, hf⟩ := zbind hf
    obtain ⟨x9, h7, e8, hf⟩ := zbind2 hf
    refine zr_callV_r C0 cv_X6_183_X6 rfl (zcko e6) (m_X6_set C0.2.2.2.2.2.2.1 e8) (by decide) (by decide) rfl rfl (Nat.le_of_ble_eq_true rfl) dX6_vote_155 rfl ?_
    exact w_X6_vote_b158 C0 hf
def f_X6_vote_b106 (E : zE) (p0 : Nat) (p1 : Int32) (s0 : Nat) (s1 : Int32) (s2 : Int32) (h : zH) : Option (Int32 × zH) :=
  (cko h s0 1).bind fun _ =>
  bnd2 (f_X6_add E s0 s1 s2 (1 : Int64) h) fun x4 h2 =>
  (cko h2 p0 1).bind fun _ =>
  bnd2 (f_X6_of E p0 p1 (14 : Int32) h2) fun x8 h6 =>
  if x8 = (3 : Int64) then (
    (cko h6 p0 1).bind fun _ =>
    bnd2 (f_X6_set E p0 p1 (9 : Int32) (2 : Int64) h6) fun x13 h11 =>
    f_X6_vote_b134 E p0 p1 h11
  ) else (
    f_X6_vote_b134 E p0 p1 h6
  )
theorem w_X6_vote_b106 (C0 : zCx p l e R s m args below meth c D B0 4 "FranchiseLedgerModel" cX6_vote E 3 106 (Option.some Jvm.ClassFile.FieldType.int) "vote") {r : Int32} {h' : zH} {p0 : Nat} {p1 : Int32} {s0 : Nat} {s1 : Int32} {s2 : Int32} {h : zH} (hf : f_X6_vote_b106 E p0 p1 s0 s1 s2 h = some (r, h')) : zW p l e R s m args below meth c D B0 4 (zEnd D B0 R below args s (zoI r) h') h 106 [(0, .ref p0), (1, .int p1)] [.int s2, .int s1, .ref s0] := by
  unfold f_X6_vote_b106 at hf
  refine zr_lconst C0 (v := 1) dX6_vote_106 (by decide) ?_
  obtain ⟨_, e1, hf⟩ := zbind hf
  obtain ⟨x4, h2, e3, hf⟩ := zbind2 hf
  refine zr_callV_r C0 cv_X6_224_X6 rfl (zcko e1) (m_X6_add C0.2.2.2.2.2.2.1 e3) (by decide) (by decide) rfl rfl (Nat.le_of_ble_eq_true rfl) dX6_vote_107 rfl ?_
  refine zr_aload_n C0 dX6_vote_110 rfl 0 rfl ?_
  refine zr_iload_n C0 dX6_vote_111 rfl 1 rfl ?_
  refine zr_bipush C0 (v := 14) dX6_vote_112 (by decide) ?_
  obtain ⟨_, e5, hf⟩ := zbind hf
  obtain ⟨x8, h6, e7, hf⟩ := zbind2 hf
  refine zr_callV_r C0 cv_X6_63_X6 rfl (zcko e5) (m_X6_of C0.2.2.2.2.2.2.1 e7) (by decide) (by decide) rfl rfl (Nat.le_of_ble_eq_true rfl) dX6_vote_114 rfl ?_
  refine zr_ldc2 C0 (v := 3) q2947 dX6_vote_117 ?_
  refine zr_lcmp C0 dX6_vote_120 ?_
  refine zr_if_ne C0 (tgt := 134) dX6_vote_121 (by decide) (fun c9 => ?_) (fun c9 => ?_)
  · have hf := zif_f (zl_ne.mp c9) hf
    exact w_X6_vote_b134 C0 hf
  · have hf := zif_t (zl_nen.mp c9) hf
    refine zr_aload_n C0 dX6_vote_124 rfl 0 rfl ?_
    refine zr_iload_n C0 dX6_vote_125 rfl 1 rfl ?_
    refine zr_bipush C0 (v := 9) dX6_vote_126 (by decide) ?_
    refine zr_ldc2 C0 (v := 2) q2903 dX6_vote_128 ?_
    obtain ⟨_, e10, hf⟩ := zbind hf
    obtain ⟨x13, h11, e12, hf⟩ := zbind2 hf
    refine zr_callV_r C0 cv_X6_183_X6 rfl (zcko e10) (m_X6_set C0.2.2.2.2.2.2.1 e12) (by decide) (by decide) rfl rfl (Nat.le_of_ble_eq_true rfl) dX6_vote_131 rfl ?_
    exact w_X6_vote_b134 C0 hf
def f_X6_vote_b44 (E : zE) (p0 : Nat) (p1 : Int32) (p2 : Int32) (p3 : Int32) (s0 : Nat) (s1 : Int32) (h : zH) : Option (Int32 × zH) :=
  (cko h s0 1).bind fun _ =>
  bnd2 (f_X6_throwsIf E s0 s1 (2 : Int32) h) fun x4 h2 =>
  if x4 = 0 then (
    (cko h2 p0 1).bind fun _ =>
    bnd2 (f_X6_of E p0 p1 (9 : Int32) h2) fun x9 h7 =>
    if x9 = (1 : Int64) then (
      (cko h7 p0 1).bind fun _ =>
      bnd2 (f_X6_of E p0 p1 (13 : Int32) h7) fun x14 h12 =>
      if ((x14 >>> (p2.toInt64 &&& 63)) &&& (1 : Int64)) = (1 : Int64) then (
        f_X6_vote_b81 E  h12
      ) else (
        (cko h12 p0 1).bind fun _ =>
        bnd2 (f_X6_add E p0 p1 (13 : Int32) ((1 : Int64) <<< (p2.toInt64 &&& 63)) h12) fun x19 h17 =>
        if p3 = 0 then (
          f_X6_vote_b106 E p0 p1 p0 p1 (15 : Int32) h17
        ) else (
          f_X6_vote_b106 E p0 p1 p0 p1 (14 : Int32) h17
        )
      )
    ) else (
      f_X6_vote_b81 E  h7
    )
  ) else (
    f_X6_vote_b51 E  h2
  )
theorem w_X6_vote_b44 (C0 : zCx p l e R s m args below meth c D B0 4 "FranchiseLedgerModel" cX6_vote E 3 106 (Option.some Jvm.ClassFile.FieldType.int) "vote") {r : Int32} {h' : zH} {p0 : Nat} {p1 : Int32} {p2 : Int32} {p3 : Int32} {s0 : Nat} {s1 : Int32} {h : zH} (hf : f_X6_vote_b44 E p0 p1 p2 p3 s0 s1 h = some (r, h')) : zW p l e R s m args below meth c D B0 4 (zEnd D B0 R below args s (zoI r) h') h 44 [(0, .ref p0), (1, .int p1), (2, .int p2), (3, .int p3)] [.int s1, .ref s0] := by
  unfold f_X6_vote_b44 at hf
  refine zr_iconst C0 (v := 2) dX6_vote_44 (by decide) ?_
  obtain ⟨_, e1, hf⟩ := zbind hf
  obtain ⟨x4, h2, e3, hf⟩ := zbind2 hf
  refine zr_callV_r C0 cv_X6_81_X6 rfl (zcko e1) (m_X6_throwsIf C0.2.2.2.2.2.2.1 e3) (by decide) (by decide) rfl rfl (Nat.le_of_ble_eq_true rfl) dX6_vote_45 rfl ?_
  refine zr_if_eq C0 (tgt := 53) dX6_vote_48 (by decide) (fun c5 => ?_) (fun c5 => ?_)
  · have hf := zif_t c5 hf
    refine zr_aload_n C0 dX6_vote_53 rfl 0 rfl ?_
    refine zr_iload_n C0 dX6_vote_54 rfl 1 rfl ?_
    refine zr_bipush C0 (v := 9) dX6_vote_55 (by decide) ?_
    obtain ⟨_, e6, hf⟩ := zbind hf
    obtain ⟨x9, h7, e8, hf⟩ := zbind2 hf
    refine zr_callV_r C0 cv_X6_63_X6 rfl (zcko e6) (m_X6_of C0.2.2.2.2.2.2.1 e8) (by decide) (by decide) rfl rfl (Nat.le_of_ble_eq_true rfl) dX6_vote_57 rfl ?_
    refine zr_lconst C0 (v := 1) dX6_vote_60 (by decide) ?_
    refine zr_lcmp C0 dX6_vote_61 ?_
    refine zr_if_ne C0 (tgt := 81) dX6_vote_62 (by decide) (fun c10 => ?_) (fun c10 => ?_)
    · have hf := zif_f (zl_ne.mp c10) hf
      refine zr_sub [] rfl ?_
      exact w_X6_vote_b81 C0 hf
    · have hf := zif_t (zl_nen.mp c10) hf
      refine zr_aload_n C0 dX6_vote_65 rfl 0 rfl ?_
      refine zr_iload_n C0 dX6_vote_66 rfl 1 rfl ?_
      refine zr_bipush C0 (v := 13) dX6_vote_67 (by decide) ?_
      obtain ⟨_, e11, hf⟩ := zbind hf
      obtain ⟨x14, h12, e13, hf⟩ := zbind2 hf
      refine zr_callV_r C0 cv_X6_63_X6 rfl (zcko e11) (m_X6_of C0.2.2.2.2.2.2.1 e13) (by decide) (by decide) rfl rfl (Nat.le_of_ble_eq_true rfl) dX6_vote_69 rfl ?_
      refine zr_iload_n C0 dX6_vote_72 rfl 2 rfl ?_
      refine zr_lshr C0 dX6_vote_73 ?_
      refine zr_lconst C0 (v := 1) dX6_vote_74 (by decide) ?_
      refine zr_land C0 dX6_vote_75 ?_
      refine zr_lconst C0 (v := 1) dX6_vote_76 (by decide) ?_
      refine zr_lcmp C0 dX6_vote_77 ?_
      refine zr_if_ne C0 (tgt := 83) dX6_vote_78 (by decide) (fun c15 => ?_) (fun c15 => ?_)
      · have hf := zif_f (zl_ne.mp c15) hf
        refine zr_aload_n C0 dX6_vote_83 rfl 0 rfl ?_
        refine zr_iload_n C0 dX6_vote_84 rfl 1 rfl ?_
        refine zr_bipush C0 (v := 13) dX6_vote_85 (by decide) ?_
        refine zr_lconst C0 (v := 1) dX6_vote_87 (by decide) ?_
        refine zr_iload_n C0 dX6_vote_88 rfl 2 rfl ?_
        refine zr_lshl C0 dX6_vote_89 ?_
        obtain ⟨_, e16, hf⟩ := zbind hf
        obtain ⟨x19, h17, e18, hf⟩ := zbind2 hf
        refine zr_callV_r C0 cv_X6_224_X6 rfl (zcko e16) (m_X6_add C0.2.2.2.2.2.2.1 e18) (by decide) (by decide) rfl rfl (Nat.le_of_ble_eq_true rfl) dX6_vote_90 rfl ?_
        refine zr_aload_n C0 dX6_vote_93 rfl 0 rfl ?_
        refine zr_iload_n C0 dX6_vote_94 rfl 1 rfl ?_
        refine zr_iload_n C0 dX6_vote_95 rfl 3 rfl ?_
        refine zr_if_eq C0 (tgt := 104) dX6_vote_96 (by decide) (fun c20 => ?_) (fun c20 => ?_)
        · have hf := zif_t c20 hf
          refine zr_bipush C0 (v := 15) dX6_vote_104 (by decide) ?_
          refine zr_sub [0, 1] rfl ?_
          exact w_X6_vote_b106 C0 hf
        · have hf := zif_f c20 hf
          refine zr_bipush C0 (v := 14) dX6_vote_99 (by decide) ?_
          refine zr_goto C0 (tgt := 106) dX6_vote_101 (by decide) ?_
          refine zr_sub [0, 1] rfl ?_
          exact w_X6_vote_b106 C0 hf
      · have hf := zif_t (zl_nen.mp c15) hf
        refine zr_sub [] rfl ?_
        exact w_X6_vote_b81 C0 hf
  · have hf := zif_f c5 hf
    refine zr_sub [] rfl ?_
    exact w_X6_vote_b51 C0 hf
def f_X6_vote_b19 (E : zE) (p0 : Nat) (p1 : Int32) (p2 : Int32) (p3 : Int32) (s0 : Nat) (s1 : Int32) (h : zH) : Option (Int32 × zH) :=
  (cko h s0 1).bind fun _ =>
  bnd2 (f_X6_throwsIf E s0 s1 (1 : Int32) h) fun x4 h2 =>
  if x4 = 0 then (
    bnd2 (f_X6_inRange E (p2.toInt64) (0 : Int64) (4 : Int64) h2) fun x8 h6 =>
    if x8 = 0 then (
      f_X6_vote_b44 E p0 p1 p2 p3 p0 (1 : Int32) h6
    ) else (
      f_X6_vote_b44 E p0 p1 p2 p3 p0 (0 : Int32) h6
    )
  ) else (
    f_X6_vote_b51 E  h2
  )
theorem w_X6_vote_b19 (C0 : zCx p l e R s m args below meth c D B0 4 "FranchiseLedgerModel" cX6_vote E 3 106 (Option.some Jvm.ClassFile.FieldType.int) "vote") {r : Int32} {h' : zH} {p0 : Nat} {p1 : Int32} {p2 : Int32} {p3 : Int32} {s0 : Nat} {s1 : Int32} {h : zH} (hf : f_X6_vote_b19 E p0 p1 p2 p3 s0 s1 h = some (r, h')) : zW p l e R s m args below meth c D B0 4 (zEnd D B0 R below args s (zoI r) h') h 19 [(0, .ref p0), (1, .int p1), (2, .int p2), (3, .int p3)] [.int s1, .ref s0] := by
  unfold f_X6_vote_b19 at hf
  refine zr_iconst C0 (v := 1) dX6_vote_19 (by decide) ?_
  obtain ⟨_, e1, hf⟩ := zbind hf
  obtain ⟨x4, h2, e3, hf⟩ := zbind2 hf
  refine zr_callV_r C0 cv_X6_81_X6 rfl (zcko e1) (m_X6_throwsIf C0.2.2.2.2.2.2.1 e3) (by decide) (by decide) rfl rfl (Nat.le_of_ble_eq_true rfl) dX6_vote_20 rfl ?_
  refine zr_if_ne C0 (tgt := 51) dX6_vote_23 (by decide) (fun c5 => ?_) (fun c5 => ?_)
  · have hf := zif_f c5 hf
    refine zr_sub [] rfl ?_
    exact w_X6_vote_b51 C0 hf
  · have hf := zif_t c5 hf
    refine zr_aload_n C0 dX6_vote_26 rfl 0 rfl ?_
    refine zr_iload_n C0 dX6_vote_27 rfl 2 rfl ?_
    refine zr_i2l C0 dX6_vote_28 ?_
    refine zr_lconst C0 (v := 0) dX6_vote_29 (by decide) ?_
    refine zr_ldc2 C0 (v := 4) q2912 dX6_vote_30 ?_
    obtain ⟨x8, h6, e7, hf⟩ := zbind2 hf
    refine zr_callS_r C0 cv_X6_53 (m_X6_inRange C0.2.2.2.2.2.2.1 e7) (by decide) (by decide) rfl rfl (Nat.le_of_ble_eq_true rfl) dX6_vote_33 rfl ?_
    refine zr_if_ne C0 (tgt := 43) dX6_vote_36 (by decide) (fun c9 => ?_) (fun c9 => ?_)
    · have hf := zif_f c9 hf
      refine zr_iconst C0 (v := 0) dX6_vote_43 (by decide) ?_
      exact w_X6_vote_b44 C0 hf
    · have hf := zif_t c9 hf
      refine zr_iconst C0 (v := 1) dX6_vote_39 (by decide) ?_
      refine zr_goto C0 (tgt := 44) dX6_vote_40 (by decide) ?_
      exact w_X6_vote_b44 C0 hf
def f_X6_vote_b0 (E : zE) (p0 : Nat) (p1 : Int32) (p2 : Int32) (p3 : Int32) (h : zH) : Option (Int32 × zH) :=
  (pF h p0 1 2 (.int (0 : Int32))).bind fun h1 =>
  (cko h1 p0 1).bind fun _ =>
  bnd2 (f_X6_isFranchisee E p0 p1 h1) fun x6 h4 =>
  if x6 = 0 then (
    f_X6_vote_b19 E p0 p1 p2 p3 p0 (1 : Int32) h4
  ) else (
    f_X6_vote_b19 E p0 p1 p2 p3 p0 (0 : Int32) h4
  )
theorem w_X6_vote_b0 (C0 : zCx p l e R s m args below meth c D B0 4 "FranchiseLedgerModel" cX6_vote E 3 106 (Option.some Jvm.ClassFile.FieldType.int) "vote") {r : Int32} {h' : zH} {p0 : Nat} {p1 : Int32} {p2 : Int32} {p3 : Int32} {h : zH} (hf : f_X6_vote_b0 E p0 p1 p2 p3 h = some (r, h')) : zW p l e R s m args below meth c D B0 4 (zEnd D B0 R below args s (zoI r) h') h 0 [(0, .ref p0), (1, .int p1), (2, .int p2), (3, .int p3)] [] := by
  unfold f_X6_vote_b0 at hf
  refine zr_aload_n C0 dX6_vote_0 rfl 0 rfl ?_
  refine zr_iconst C0 (v := 0) dX6_vote_1 (by decide) ?_
  obtain ⟨h1, e2, hf⟩ := zbind hf
  refine zr_put C0 pl_X6_50_X6 dX6_vote_2 (fun h => by cases h) rfl rfl e2 ?_
  refine zr_aload_n C0 dX6_vote_5 rfl 0 rfl ?_
  refine zr_aload_n C0 dX6_vote_6 rfl 0 rfl ?_
  refine zr_iload_n C0 dX6_vote_7 rfl 1 rfl ?_
  obtain ⟨_, e3, hf⟩ := zbind hf
  obtain ⟨x6, h4, e5, hf⟩ := zbind2 hf
  refine zr_callV_r C0 cv_X6_85_X6 rfl (zcko e3) (m_X6_isFranchisee C0.2.2.2.2.2.2.1 e5) (by decide) (by decide) rfl rfl (Nat.le_of_ble_eq_true rfl) dX6_vote_8 rfl ?_
  refine zr_if_ne C0 (tgt := 18) dX6_vote_11 (by decide) (fun c7 => ?_) (fun c7 => ?_)
  · have hf := zif_f c7 hf
    refine zr_iconst C0 (v := 0) dX6_vote_18 (by decide) ?_
    exact w_X6_vote_b19 C0 hf
  · have hf := zif_t c7 hf
    refine zr_iconst C0 (v := 1) dX6_vote_14 (by decide) ?_
    refine zr_goto C0 (tgt := 19) dX6_vote_15 (by decide) ?_
    exact w_X6_vote_b19 C0 hf
def f_X6_vote (E : zE) (p0 : Nat) (p1 : Int32) (p2 : Int32) (p3 : Int32) (h : zH) : Option (Int32 × zH) := f_X6_vote_b0 E p0 p1 p2 p3 h
theorem m_X6_vote {l : Launch} (hst : l.stackTraces = false) {D : zD} {B0 : Nat} {E : zE} {p0 : Nat} {p1 : Int32} {p2 : Int32} {p3 : Int32} {h h' : zH} {r : Int32} (hf : f_X6_vote E p0 p1 p2 p3 h = some (r, h')) : zMet l yX6_vote (ws_ yX6_vote cX6_vote 4 (Option.some Jvm.ClassFile.FieldType.int)) 3 106 D B0 E [.ref p0, .int p1, .int p2, .int p3] h (zoI r) h' := by
  unfold f_X6_vote at hf
  refine zMet_of hst (by decide +kernel) rfl rfl (Nat.le_of_ble_eq_true rfl) (fun p e R s m below meth c C0 hno => ?_)
  show zW _ _ _ _ _ _ _ _ _ _ _ _ _ _ _ _ [(0, .ref p0), (1, .int p1), (2, .int p2), (3, .int p3)] []
  exact w_X6_vote_b0 C0 hf
def f_X6_exercise_b42 (E : zE) (h : zH) : Option (Int32 × zH) :=
  some ((0 : Int32), h)
theorem w_X6_exercise_b42 (C0 : zCx p l e R s m args below meth c D B0 2 "FranchiseLedgerModel" cX6_exercise E 3 106 (Option.some Jvm.ClassFile.FieldType.boolean) "exercise") {r : Int32} {h' : zH} {h : zH} (hf : f_X6_exercise_b42 E  h = some (r, h')) : zW p l e R s m args below meth c D B0 2 (zEnd D B0 R below args s (zoI r) h') h 42 [] [] := by
  unfold f_X6_exercise_b42 at hf
  refine zr_iconst C0 (v := 0) dX6_exercise_42 (by decide) ?_
  refine zretW hf ?_
  exact zr_iret C0 (ty := .boolean) rfl (by decide) dX6_exercise_43 rfl
def f_X6_exercise_b19 (E : zE) (p0 : Nat) (p1 : Int32) (s0 : Nat) (s1 : Int32) (h : zH) : Option (Int32 × zH) :=
  (cko h s0 1).bind fun _ =>
  bnd2 (f_X6_throwsIf E s0 s1 (1 : Int32) h) fun x4 h2 =>
  if x4 = 0 then (
    (cko h2 p0 1).bind fun _ =>
    bnd2 (f_X6_isOpenTransfer E p0 p1 h2) fun x9 h7 =>
    if x9 = 0 then (
      f_X6_exercise_b42 E  h7
    ) else (
      (cko h7 p0 1).bind fun _ =>
      bnd2 (f_X6_isDelayOver E p0 p1 h7) fun x14 h12 =>
      if x14 = 0 then (
        (cko h12 p0 1).bind fun _ =>
        bnd2 (f_X6_set E p0 p1 (3 : Int32) (2 : Int64) h12) fun x19 h17 =>
        (cko h17 p0 1).bind fun _ =>
        bnd2 (f_X6_set E p0 p1 (9 : Int32) (5 : Int64) h17) fun x23 h21 =>
        (cko h21 p0 1).bind fun _ =>
        bnd2 (f_X6_of E p0 p1 (11 : Int32) h21) fun x27 h25 =>
        (cko h25 p0 1).bind fun _ =>
        bnd2 (f_X6_add E p0 p1 (4 : Int32) (-x27) h25) fun x31 h29 =>
        some ((1 : Int32), h29)
      ) else (
        f_X6_exercise_b42 E  h12
      )
    )
  ) else (
    f_X6_exercise_b42 E  h2
  )
theorem w_X6_exercise_b19 (C0 : zCx p l e R s m args below meth c D B0 2 "FranchiseLedgerModel" cX6_exercise E 3 106 (Option.some Jvm.ClassFile.FieldType.boolean) "exercise") {r : Int32} {h' : zH} {p0 : Nat} {p1 : Int32} {s0 : Nat} {s1 : Int32} {h : zH} (hf : f_X6_exercise_b19 E p0 p1 s0 s1 h = some (r, h')) : zW p l e R s m args below meth c D B0 2 (zEnd D B0 R below args s (zoI r) h') h 19 [(0, .ref p0), (1, .int p1)] [.int s1, .ref s0] := by
  unfold f_X6_exercise_b19 at hf
  refine zr_iconst C0 (v := 1) dX6_exercise_19 (by decide) ?_
  obtain ⟨_, e1, hf⟩ := zbind hf
  obtain ⟨x4, h2, e3, hf⟩ := zbind2 hf
  refine zr_callV_r C0 cv_X6_81_X6 rfl (zcko e1) (m_X6_throwsIf C0.2.2.2.2.2.2.1 e3) (by decide) (by decide) rfl rfl (Nat.le_of_ble_eq_true rfl) dX6_exercise_20 rfl ?_
  refine zr_if_ne C0 (tgt := 42) dX6_exercise_23 (by decide) (fun c5 => ?_) (fun c5 => ?_)
  · have hf := zif_f c5 hf
    refine zr_sub [] rfl ?_
    exact w_X6_exercise_b42 C0 hf
  · have hf := zif_t c5 hf
    refine zr_aload_n C0 dX6_exercise_26 rfl 0 rfl ?_
    refine zr_iload_n C0 dX6_exercise_27 rfl 1 rfl ?_
    obtain ⟨_, e6, hf⟩ := zbind hf
    obtain ⟨x9, h7, e8, hf⟩ := zbind2 hf
    refine zr_callV_r C0 cv_X6_246_X6 rfl (zcko e6) (m_X6_isOpenTransfer C0.2.2.2.2.2.2.1 e8) (by decide) (by decide) rfl rfl (Nat.le_of_ble_eq_true rfl) dX6_exercise_28 rfl ?_
    refine zr_if_eq C0 (tgt := 42) dX6_exercise_31 (by decide) (fun c10 => ?_) (fun c10 => ?_)
    · have hf := zif_t c10 hf
      refine zr_sub [] rfl ?_
      exact w_X6_exercise_b42 C0 hf
    · have hf := zif_f c10 hf
      refine zr_aload_n C0 dX6_exercise_34 rfl 0 rfl ?_
      refine zr_iload_n C0 dX6_exercise_35 rfl 1 rfl ?_
      obtain ⟨_, e11, hf⟩ := zbind hf
      obtain ⟨x14, h12, e13, hf⟩ := zbind2 hf
      refine zr_callV_r C0 cv_X6_234_X6 rfl (zcko e11) (m_X6_isDelayOver C0.2.2.2.2.2.2.1 e13) (by decide) (by decide) rfl rfl (Nat.le_of_ble_eq_true rfl) dX6_exercise_36 rfl ?_
      refine zr_if_eq C0 (tgt := 44) dX6_exercise_39 (by decide) (fun c15 => ?_) (fun c15 => ?_)
      · have hf := zif_t c15 hf
        refine zr_aload_n C0 dX6_exercise_44 rfl 0 rfl ?_
        refine zr_iload_n C0 dX6_exercise_45 rfl 1 rfl ?_
        refine zr_iconst C0 (v := 3) dX6_exercise_46 (by decide) ?_
        refine zr_ldc2 C0 (v := 2) q2903 dX6_exercise_47 ?_
        obtain ⟨_, e16, hf⟩ := zbind hf
        obtain ⟨x19, h17, e18, hf⟩ := zbind2 hf
        refine zr_callV_r C0 cv_X6_183_X6 rfl (zcko e16) (m_X6_set C0.2.2.2.2.2.2.1 e18) (by decide) (by decide) rfl rfl (Nat.le_of_ble_eq_true rfl) dX6_exercise_50 rfl ?_
        refine zr_aload_n C0 dX6_exercise_53 rfl 0 rfl ?_
        refine zr_iload_n C0 dX6_exercise_54 rfl 1 rfl ?_
        refine zr_bipush C0 (v := 9) dX6_exercise_55 (by decide) ?_
        refine zr_ldc2 C0 (v := 5) q3013 dX6_exercise_57 ?_
        obtain ⟨_, e20, hf⟩ := zbind hf
        obtain ⟨x23, h21, e22, hf⟩ := zbind2 hf
        refine zr_callV_r C0 cv_X6_183_X6 rfl (zcko e20) (m_X6_set C0.2.2.2.2.2.2.1 e22) (by decide) (by decide) rfl rfl (Nat.le_of_ble_eq_true rfl) dX6_exercise_60 rfl ?_
        refine zr_aload_n C0 dX6_exercise_63 rfl 0 rfl ?_
        refine zr_iload_n C0 dX6_exercise_64 rfl 1 rfl ?_
        refine zr_iconst C0 (v := 4) dX6_exercise_65 (by decide) ?_
        refine zr_aload_n C0 dX6_exercise_66 rfl 0 rfl ?_
        refine zr_iload_n C0 dX6_exercise_67 rfl 1 rfl ?_
        refine zr_bipush C0 (v := 11) dX6_exercise_68 (by decide) ?_
        obtain ⟨_, e24, hf⟩ := zbind hf
        obtain ⟨x27, h25, e26, hf⟩ := zbind2 hf
        refine zr_callV_r C0 cv_X6_63_X6 rfl (zcko e24) (m_X6_of C0.2.2.2.2.2.2.1 e26) (by decide) (by decide) rfl rfl (Nat.le_of_ble_eq_true rfl) dX6_exercise_70 rfl ?_
        refine zr_lneg C0 dX6_exercise_73 ?_
        obtain ⟨_, e28, hf⟩ := zbind hf
        obtain ⟨x31, h29, e30, hf⟩ := zbind2 hf
        refine zr_callV_r C0 cv_X6_224_X6 rfl (zcko e28) (m_X6_add C0.2.2.2.2.2.2.1 e30) (by decide) (by decide) rfl rfl (Nat.le_of_ble_eq_true rfl) dX6_exercise_74 rfl ?_
        refine zr_iconst C0 (v := 1) dX6_exercise_77 (by decide) ?_
        refine zretW hf ?_
        exact zr_iret C0 (ty := .boolean) rfl (by decide) dX6_exercise_78 rfl
      · have hf := zif_f c15 hf
        refine zr_sub [] rfl ?_
        exact w_X6_exercise_b42 C0 hf
def f_X6_exercise_b0 (E : zE) (p0 : Nat) (p1 : Int32) (h : zH) : Option (Int32 × zH) :=
  (pF h p0 1 2 (.int (0 : Int32))).bind fun h1 =>
  (cko h1 p0 1).bind fun _ =>
  bnd2 (f_X6_isFranchisee E p0 p1 h1) fun x6 h4 =>
  if x6 = 0 then (
    f_X6_exercise_b19 E p0 p1 p0 (1 : Int32) h4
  ) else (
    f_X6_exercise_b19 E p0 p1 p0 (0 : Int32) h4
  )
theorem w_X6_exercise_b0 (C0 : zCx p l e R s m args below meth c D B0 2 "FranchiseLedgerModel" cX6_exercise E 3 106 (Option.some Jvm.ClassFile.FieldType.boolean) "exercise") {r : Int32} {h' : zH} {p0 : Nat} {p1 : Int32} {h : zH} (hf : f_X6_exercise_b0 E p0 p1 h = some (r, h')) : zW p l e R s m args below meth c D B0 2 (zEnd D B0 R below args s (zoI r) h') h 0 [(0, .ref p0), (1, .int p1)] [] := by
  unfold f_X6_exercise_b0 at hf
  refine zr_aload_n C0 dX6_exercise_0 rfl 0 rfl ?_
  refine zr_iconst C0 (v := 0) dX6_exercise_1 (by decide) ?_
  obtain ⟨h1, e2, hf⟩ := zbind hf
  refine zr_put C0 pl_X6_50_X6 dX6_exercise_2 (fun h => by cases h) rfl rfl e2 ?_
  refine zr_aload_n C0 dX6_exercise_5 rfl 0 rfl ?_
  refine zr_aload_n C0 dX6_exercise_6 rfl 0 rfl ?_
  refine zr_iload_n C0 dX6_exercise_7 rfl 1 rfl ?_
  obtain ⟨_, e3, hf⟩ := zbind hf
  obtain ⟨x6, h4, e5, hf⟩ := zbind2 hf
  refine zr_callV_r C0 cv_X6_85_X6 rfl (zcko e3) (m_X6_isFranchisee C0.2.2.2.2.2.2.1 e5) (by decide) (by decide) rfl rfl (Nat.le_of_ble_eq_true rfl) dX6_exercise_8 rfl ?_
  refine zr_if_ne C0 (tgt := 18) dX6_exercise_11 (by decide) (fun c7 => ?_) (fun c7 => ?_)
  · have hf := zif_f c7 hf
    refine zr_iconst C0 (v := 0) dX6_exercise_18 (by decide) ?_
    exact w_X6_exercise_b19 C0 hf
  · have hf := zif_t c7 hf
    refine zr_iconst C0 (v := 1) dX6_exercise_14 (by decide) ?_
    refine zr_goto C0 (tgt := 19) dX6_exercise_15 (by decide) ?_
    exact w_X6_exercise_b19 C0 hf
def f_X6_exercise (E : zE) (p0 : Nat) (p1 : Int32) (h : zH) : Option (Int32 × zH) := f_X6_exercise_b0 E p0 p1 h
theorem m_X6_exercise {l : Launch} (hst : l.stackTraces = false) {D : zD} {B0 : Nat} {E : zE} {p0 : Nat} {p1 : Int32} {h h' : zH} {r : Int32} (hf : f_X6_exercise E p0 p1 h = some (r, h')) : zMet l yX6_exercise (ws_ yX6_exercise cX6_exercise 2 (Option.some Jvm.ClassFile.FieldType.boolean)) 3 106 D B0 E [.ref p0, .int p1] h (zoI r) h' := by
  unfold f_X6_exercise at hf
  refine zMet_of hst (by decide +kernel) rfl rfl (Nat.le_of_ble_eq_true rfl) (fun p e R s m below meth c C0 hno => ?_)
  show zW _ _ _ _ _ _ _ _ _ _ _ _ _ _ _ _ [(0, .ref p0), (1, .int p1)] []
  exact w_X6_exercise_b0 C0 hf
def f_X6_withdraw_b34 (E : zE) (h : zH) : Option (Int32 × zH) :=
  some ((0 : Int32), h)
theorem w_X6_withdraw_b34 (C0 : zCx p l e R s m args below meth c D B0 2 "FranchiseLedgerModel" cX6_withdraw E 3 106 (Option.some Jvm.ClassFile.FieldType.boolean) "withdraw") {r : Int32} {h' : zH} {h : zH} (hf : f_X6_withdraw_b34 E  h = some (r, h')) : zW p l e R s m args below meth c D B0 2 (zEnd D B0 R below args s (zoI r) h') h 34 [] [] := by
  unfold f_X6_withdraw_b34 at hf
  refine zr_iconst C0 (v := 0) dX6_withdraw_34 (by decide) ?_
  refine zretW hf ?_
  exact zr_iret C0 (ty := .boolean) rfl (by decide) dX6_withdraw_35 rfl
def f_X6_withdraw_b19 (E : zE) (p0 : Nat) (p1 : Int32) (s0 : Nat) (s1 : Int32) (h : zH) : Option (Int32 × zH) :=
  (cko h s0 1).bind fun _ =>
  bnd2 (f_X6_throwsIf E s0 s1 (1 : Int32) h) fun x4 h2 =>
  if x4 = 0 then (
    (cko h2 p0 1).bind fun _ =>
    bnd2 (f_X6_isOpenTransfer E p0 p1 h2) fun x9 h7 =>
    if x9 = 0 then (
      f_X6_withdraw_b34 E  h7
    ) else (
      (cko h7 p0 1).bind fun _ =>
      bnd2 (f_X6_set E p0 p1 (9 : Int32) (0 : Int64) h7) fun x14 h12 =>
      some ((1 : Int32), h12)
    )
  ) else (
    f_X6_withdraw_b34 E  h2
  )
theorem w_X6_withdraw_b19 (C0 : zCx p l e R s m args below meth c D B0 2 "FranchiseLedgerModel" cX6_withdraw E 3 106 (Option.some Jvm.ClassFile.FieldType.boolean) "withdraw") {r : Int32} {h' : zH} {p0 : Nat} {p1 : Int32} {s0 : Nat} {s1 : Int32} {h : zH} (hf : f_X6_withdraw_b19 E p0 p1 s0 s1 h = some (r, h')) : zW p l e R s m args below meth c D B0 2 (zEnd D B0 R below args s (zoI r) h') h 19 [(0, .ref p0), (1, .int p1)] [.int s1, .ref s0] := by
  unfold f_X6_withdraw_b19 at hf
  refine zr_iconst C0 (v := 1) dX6_withdraw_19 (by decide) ?_
  obtain ⟨_, e1, hf⟩ := zbind hf
  obtain ⟨x4, h2, e3, hf⟩ := zbind2 hf
  refine zr_callV_r C0 cv_X6_81_X6 rfl (zcko e1) (m_X6_throwsIf C0.2.2.2.2.2.2.1 e3) (by decide) (by decide) rfl rfl (Nat.le_of_ble_eq_true rfl) dX6_withdraw_20 rfl ?_
  refine zr_if_ne C0 (tgt := 34) dX6_withdraw_23 (by decide) (fun c5 => ?_) (fun c5 => ?_)
  · have hf := zif_f c5 hf
    refine zr_sub [] rfl ?_
    exact w_X6_withdraw_b34 C0 hf
  · have hf := zif_t c5 hf
    refine zr_aload_n C0 dX6_withdraw_26 rfl 0 rfl ?_
    refine zr_iload_n C0 dX6_withdraw_27 rfl 1 rfl ?_
    obtain ⟨_, e6, hf⟩ := zbind hf
    obtain ⟨x9, h7, e8, hf⟩ := zbind2 hf
    refine zr_callV_r C0 cv_X6_246_X6 rfl (zcko e6) (m_X6_isOpenTransfer C0.2.2.2.2.2.2.1 e8) (by decide) (by decide) rfl rfl (Nat.le_of_ble_eq_true rfl) dX6_withdraw_28 rfl ?_
    refine zr_if_ne C0 (tgt := 36) dX6_withdraw_31 (by decide) (fun c10 => ?_) (fun c10 => ?_)
    · have hf := zif_f c10 hf
      refine zr_aload_n C0 dX6_withdraw_36 rfl 0 rfl ?_
      refine zr_iload_n C0 dX6_withdraw_37 rfl 1 rfl ?_
      refine zr_bipush C0 (v := 9) dX6_withdraw_38 (by decide) ?_
      refine zr_lconst C0 (v := 0) dX6_withdraw_40 (by decide) ?_
      obtain ⟨_, e11, hf⟩ := zbind hf
      obtain ⟨x14, h12, e13, hf⟩ := zbind2 hf
      refine zr_callV_r C0 cv_X6_183_X6 rfl (zcko e11) (m_X6_set C0.2.2.2.2.2.2.1 e13) (by decide) (by decide) rfl rfl (Nat.le_of_ble_eq_true rfl) dX6_withdraw_41 rfl ?_
      refine zr_iconst C0 (v := 1) dX6_withdraw_44 (by decide) ?_
      refine zretW hf ?_
      exact zr_iret C0 (ty := .boolean) rfl (by decide) dX6_withdraw_45 rfl
    · have hf := zif_t c10 hf
      refine zr_sub [] rfl ?_
      exact w_X6_withdraw_b34 C0 hf
def f_X6_withdraw_b0 (E : zE) (p0 : Nat) (p1 : Int32) (h : zH) : Option (Int32 × zH) :=
  (pF h p0 1 2 (.int (0 : Int32))).bind fun h1 =>
  (cko h1 p0 1).bind fun _ =>
  bnd2 (f_X6_isFranchisee E p0 p1 h1) fun x6 h4 =>
  if x6 = 0 then (
    f_X6_withdraw_b19 E p0 p1 p0 (1 : Int32) h4
  ) else (
    f_X6_withdraw_b19 E p0 p1 p0 (0 : Int32) h4
  )
theorem w_X6_withdraw_b0 (C0 : zCx p l e R s m args below meth c D B0 2 "FranchiseLedgerModel" cX6_withdraw E 3 106 (Option.some Jvm.ClassFile.FieldType.boolean) "withdraw") {r : Int32} {h' : zH} {p0 : Nat} {p1 : Int32} {h : zH} (hf : f_X6_withdraw_b0 E p0 p1 h = some (r, h')) : zW p l e R s m args below meth c D B0 2 (zEnd D B0 R below args s (zoI r) h') h 0 [(0, .ref p0), (1, .int p1)] [] := by
  unfold f_X6_withdraw_b0 at hf
  refine zr_aload_n C0 dX6_withdraw_0 rfl 0 rfl ?_
  refine zr_iconst C0 (v := 0) dX6_withdraw_1 (by decide) ?_
  obtain ⟨h1, e2, hf⟩ := zbind hf
  refine zr_put C0 pl_X6_50_X6 dX6_withdraw_2 (fun h => by cases h) rfl rfl e2 ?_
  refine zr_aload_n C0 dX6_withdraw_5 rfl 0 rfl ?_
  refine zr_aload_n C0 dX6_withdraw_6 rfl 0 rfl ?_
  refine zr_iload_n C0 dX6_withdraw_7 rfl 1 rfl ?_
  obtain ⟨_, e3, hf⟩ := zbind hf
  obtain ⟨x6, h4, e5, hf⟩ := zbind2 hf
  refine zr_callV_r C0 cv_X6_85_X6 rfl (zcko e3) (m_X6_isFranchisee C0.2.2.2.2.2.2.1 e5) (by decide) (by decide) rfl rfl (Nat.le_of_ble_eq_true rfl) dX6_withdraw_8 rfl ?_
  refine zr_if_ne C0 (tgt := 18) dX6_withdraw_11 (by decide) (fun c7 => ?_) (fun c7 => ?_)
  · have hf := zif_f c7 hf
    refine zr_iconst C0 (v := 0) dX6_withdraw_18 (by decide) ?_
    exact w_X6_withdraw_b19 C0 hf
  · have hf := zif_t c7 hf
    refine zr_iconst C0 (v := 1) dX6_withdraw_14 (by decide) ?_
    refine zr_goto C0 (tgt := 19) dX6_withdraw_15 (by decide) ?_
    exact w_X6_withdraw_b19 C0 hf
def f_X6_withdraw (E : zE) (p0 : Nat) (p1 : Int32) (h : zH) : Option (Int32 × zH) := f_X6_withdraw_b0 E p0 p1 h
theorem m_X6_withdraw {l : Launch} (hst : l.stackTraces = false) {D : zD} {B0 : Nat} {E : zE} {p0 : Nat} {p1 : Int32} {h h' : zH} {r : Int32} (hf : f_X6_withdraw E p0 p1 h = some (r, h')) : zMet l yX6_withdraw (ws_ yX6_withdraw cX6_withdraw 2 (Option.some Jvm.ClassFile.FieldType.boolean)) 3 106 D B0 E [.ref p0, .int p1] h (zoI r) h' := by
  unfold f_X6_withdraw at hf
  refine zMet_of hst (by decide +kernel) rfl rfl (Nat.le_of_ble_eq_true rfl) (fun p e R s m below meth c C0 hno => ?_)
  show zW _ _ _ _ _ _ _ _ _ _ _ _ _ _ _ _ [(0, .ref p0), (1, .int p1)] []
  exact w_X6_withdraw_b0 C0 hf
def f_X6_transferState_b38 (E : zE) (s0 : Int32) (h : zH) : Option (Int32 × zH) :=
  some (s0, h)
theorem w_X6_transferState_b38 (C0 : zCx p l e R s m args below meth c D B0 2 "FranchiseLedgerModel" cX6_transferState E 3 106 (Option.some Jvm.ClassFile.FieldType.int) "transferState") {r : Int32} {h' : zH} {s0 : Int32} {h : zH} (hf : f_X6_transferState_b38 E s0 h = some (r, h')) : zW p l e R s m args below meth c D B0 2 (zEnd D B0 R below args s (zoI r) h') h 38 [] [.int s0] := by
  unfold f_X6_transferState_b38 at hf
  refine zretW hf ?_
  exact zr_iret C0 (ty := .int) rfl rfl dX6_transferState_38 rfl
def f_X6_transferState_b19 (E : zE) (p0 : Nat) (p1 : Int32) (s0 : Nat) (s1 : Int32) (h : zH) : Option (Int32 × zH) :=
  (cko h s0 1).bind fun _ =>
  bnd2 (f_X6_throwsIf E s0 s1 (1 : Int32) h) fun x4 h2 =>
  if x4 = 0 then (
    (cko h2 p0 1).bind fun _ =>
    bnd2 (f_X6_of E p0 p1 (9 : Int32) h2) fun x9 h7 =>
    f_X6_transferState_b38 E (x9.toInt32) h7
  ) else (
    f_X6_transferState_b38 E (0 : Int32) h2
  )
theorem w_X6_transferState_b19 (C0 : zCx p l e R s m args below meth c D B0 2 "FranchiseLedgerModel" cX6_transferState E 3 106 (Option.some Jvm.ClassFile.FieldType.int) "transferState") {r : Int32} {h' : zH} {p0 : Nat} {p1 : Int32} {s0 : Nat} {s1 : Int32} {h : zH} (hf : f_X6_transferState_b19 E p0 p1 s0 s1 h = some (r, h')) : zW p l e R s m args below meth c D B0 2 (zEnd D B0 R below args s (zoI r) h') h 19 [(0, .ref p0), (1, .int p1)] [.int s1, .ref s0] := by
  unfold f_X6_transferState_b19 at hf
  refine zr_iconst C0 (v := 1) dX6_transferState_19 (by decide) ?_
  obtain ⟨_, e1, hf⟩ := zbind hf
  obtain ⟨x4, h2, e3, hf⟩ := zbind2 hf
  refine zr_callV_r C0 cv_X6_81_X6 rfl (zcko e1) (m_X6_throwsIf C0.2.2.2.2.2.2.1 e3) (by decide) (by decide) rfl rfl (Nat.le_of_ble_eq_true rfl) dX6_transferState_20 rfl ?_
  refine zr_if_eq C0 (tgt := 30) dX6_transferState_23 (by decide) (fun c5 => ?_) (fun c5 => ?_)
  · have hf := zif_t c5 hf
    refine zr_aload_n C0 dX6_transferState_30 rfl 0 rfl ?_
    refine zr_iload_n C0 dX6_transferState_31 rfl 1 rfl ?_
    refine zr_bipush C0 (v := 9) dX6_transferState_32 (by decide) ?_
    obtain ⟨_, e6, hf⟩ := zbind hf
    obtain ⟨x9, h7, e8, hf⟩ := zbind2 hf
    refine zr_callV_r C0 cv_X6_63_X6 rfl (zcko e6) (m_X6_of C0.2.2.2.2.2.2.1 e8) (by decide) (by decide) rfl rfl (Nat.le_of_ble_eq_true rfl) dX6_transferState_34 rfl ?_
    refine zr_l2i C0 dX6_transferState_37 ?_
    refine zr_sub [] rfl ?_
    exact w_X6_transferState_b38 C0 hf
  · have hf := zif_f c5 hf
    refine zr_iconst C0 (v := 0) dX6_transferState_26 (by decide) ?_
    refine zr_goto C0 (tgt := 38) dX6_transferState_27 (by decide) ?_
    refine zr_sub [] rfl ?_
    exact w_X6_transferState_b38 C0 hf
def f_X6_transferState_b0 (E : zE) (p0 : Nat) (p1 : Int32) (h : zH) : Option (Int32 × zH) :=
  (pF h p0 1 2 (.int (0 : Int32))).bind fun h1 =>
  (cko h1 p0 1).bind fun _ =>
  bnd2 (f_X6_isFranchisee E p0 p1 h1) fun x6 h4 =>
  if x6 = 0 then (
    f_X6_transferState_b19 E p0 p1 p0 (1 : Int32) h4
  ) else (
    f_X6_transferState_b19 E p0 p1 p0 (0 : Int32) h4
  )
theorem w_X6_transferState_b0 (C0 : zCx p l e R s m args below meth c D B0 2 "FranchiseLedgerModel" cX6_transferState E 3 106 (Option.some Jvm.ClassFile.FieldType.int) "transferState") {r : Int32} {h' : zH} {p0 : Nat} {p1 : Int32} {h : zH} (hf : f_X6_transferState_b0 E p0 p1 h = some (r, h')) : zW p l e R s m args below meth c D B0 2 (zEnd D B0 R below args s (zoI r) h') h 0 [(0, .ref p0), (1, .int p1)] [] := by
  unfold f_X6_transferState_b0 at hf
  refine zr_aload_n C0 dX6_transferState_0 rfl 0 rfl ?_
  refine zr_iconst C0 (v := 0) dX6_transferState_1 (by decide) ?_
  obtain ⟨h1, e2, hf⟩ := zbind hf
  refine zr_put C0 pl_X6_50_X6 dX6_transferState_2 (fun h => by cases h) rfl rfl e2 ?_
  refine zr_aload_n C0 dX6_transferState_5 rfl 0 rfl ?_
  refine zr_aload_n C0 dX6_transferState_6 rfl 0 rfl ?_
  refine zr_iload_n C0 dX6_transferState_7 rfl 1 rfl ?_
  obtain ⟨_, e3, hf⟩ := zbind hf
  obtain ⟨x6, h4, e5, hf⟩ := zbind2 hf
  refine zr_callV_r C0 cv_X6_85_X6 rfl (zcko e3) (m_X6_isFranchisee C0.2.2.2.2.2.2.1 e5) (by decide) (by decide) rfl rfl (Nat.le_of_ble_eq_true rfl) dX6_transferState_8 rfl ?_
  refine zr_if_ne C0 (tgt := 18) dX6_transferState_11 (by decide) (fun c7 => ?_) (fun c7 => ?_)
  · have hf := zif_f c7 hf
    refine zr_iconst C0 (v := 0) dX6_transferState_18 (by decide) ?_
    exact w_X6_transferState_b19 C0 hf
  · have hf := zif_t c7 hf
    refine zr_iconst C0 (v := 1) dX6_transferState_14 (by decide) ?_
    refine zr_goto C0 (tgt := 19) dX6_transferState_15 (by decide) ?_
    exact w_X6_transferState_b19 C0 hf
def f_X6_transferState (E : zE) (p0 : Nat) (p1 : Int32) (h : zH) : Option (Int32 × zH) := f_X6_transferState_b0 E p0 p1 h
theorem m_X6_transferState {l : Launch} (hst : l.stackTraces = false) {D : zD} {B0 : Nat} {E : zE} {p0 : Nat} {p1 : Int32} {h h' : zH} {r : Int32} (hf : f_X6_transferState E p0 p1 h = some (r, h')) : zMet l yX6_transferState (ws_ yX6_transferState cX6_transferState 2 (Option.some Jvm.ClassFile.FieldType.int)) 3 106 D B0 E [.ref p0, .int p1] h (zoI r) h' := by
  unfold f_X6_transferState at hf
  refine zMet_of hst (by decide +kernel) rfl rfl (Nat.le_of_ble_eq_true rfl) (fun p e R s m below meth c C0 hno => ?_)
  show zW _ _ _ _ _ _ _ _ _ _ _ _ _ _ _ _ [(0, .ref p0), (1, .int p1)] []
  exact w_X6_transferState_b0 C0 hf
def f_X6_transferWait_b73 (E : zE) (s0 : Int32) (h : zH) : Option (Int32 × zH) :=
  some (s0, h)
theorem w_X6_transferWait_b73 (C0 : zCx p l e R s m args below meth c D B0 2 "FranchiseLedgerModel" cX6_transferWait E 3 106 (Option.some Jvm.ClassFile.FieldType.int) "transferWait") {r : Int32} {h' : zH} {s0 : Int32} {h : zH} (hf : f_X6_transferWait_b73 E s0 h = some (r, h')) : zW p l e R s m args below meth c D B0 2 (zEnd D B0 R below args s (zoI r) h') h 73 [] [.int s0] := by
  unfold f_X6_transferWait_b73 at hf
  refine zretW hf ?_
  exact zr_iret C0 (ty := .int) rfl rfl dX6_transferWait_73 rfl
def f_X6_transferWait_b19 (E : zE) (p0 : Nat) (p1 : Int32) (s0 : Nat) (s1 : Int32) (h : zH) : Option (Int32 × zH) :=
  (cko h s0 1).bind fun _ =>
  bnd2 (f_X6_throwsIf E s0 s1 (1 : Int32) h) fun x4 h2 =>
  if x4 = 0 then (
    (cko h2 p0 1).bind fun _ =>
    bnd2 (f_X6_isOpenTransfer E p0 p1 h2) fun x9 h7 =>
    if x9 = 0 then (
      some ((-1 : Int32), h7)
    ) else (
      (cko h7 p0 1).bind fun _ =>
      bnd2 (f_X6_isDelayOver E p0 p1 h7) fun x14 h12 =>
      if x14 = 0 then (
        (gR h12 p0 1 0).bind fun x16 =>
        (dL h12 x16 (9 : Int32)).bind fun x18 =>
        (gR h12 p0 1 0).bind fun x20 =>
        (dL h12 x20 (0 : Int32)).bind fun x22 =>
        (cko h12 p0 1).bind fun _ =>
        bnd2 (f_X6_of E p0 p1 (12 : Int32) h12) fun x27 h25 =>
        f_X6_transferWait_b73 E (((x18 - x22) + x27).toInt32) h25
      ) else (
        f_X6_transferWait_b73 E (0 : Int32) h12
      )
    )
  ) else (
    some ((0 : Int32), h2)
  )
theorem w_X6_transferWait_b19 (C0 : zCx p l e R s m args below meth c D B0 2 "FranchiseLedgerModel" cX6_transferWait E 3 106 (Option.some Jvm.ClassFile.FieldType.int) "transferWait") {r : Int32} {h' : zH} {p0 : Nat} {p1 : Int32} {s0 : Nat} {s1 : Int32} {h : zH} (hf : f_X6_transferWait_b19 E p0 p1 s0 s1 h = some (r, h')) : zW p l e R s m args below meth c D B0 2 (zEnd D B0 R below args s (zoI r) h') h 19 [(0, .ref p0), (1, .int p1)] [.int s1, .ref s0] := by
  unfold f_X6_transferWait_b19 at hf
  refine zr_iconst C0 (v := 1) dX6_transferWait_19 (by decide) ?_
  obtain ⟨_, e1, hf⟩ := zbind hf
  obtain ⟨x4, h2, e3, hf⟩ := zbind2 hf
  refine zr_callV_r C0 cv_X6_81_X6 rfl (zcko e1) (m_X6_throwsIf C0.2.2.2.2.2.2.1 e3) (by decide) (by decide) rfl rfl (Nat.le_of_ble_eq_true rfl) dX6_transferWait_20 rfl ?_
  refine zr_if_eq C0 (tgt := 28) dX6_transferWait_23 (by decide) (fun c5 => ?_) (fun c5 => ?_)
  · have hf := zif_t c5 hf
    refine zr_aload_n C0 dX6_transferWait_28 rfl 0 rfl ?_
    refine zr_iload_n C0 dX6_transferWait_29 rfl 1 rfl ?_
    obtain ⟨_, e6, hf⟩ := zbind hf
    obtain ⟨x9, h7, e8, hf⟩ := zbind2 hf
    refine zr_callV_r C0 cv_X6_246_X6 rfl (zcko e6) (m_X6_isOpenTransfer C0.2.2.2.2.2.2.1 e8) (by decide) (by decide) rfl rfl (Nat.le_of_ble_eq_true rfl) dX6_transferWait_30 rfl ?_
    refine zr_if_ne C0 (tgt := 38) dX6_transferWait_33 (by decide) (fun c10 => ?_) (fun c10 => ?_)
    · have hf := zif_f c10 hf
      refine zr_aload_n C0 dX6_transferWait_38 rfl 0 rfl ?_
      refine zr_iload_n C0 dX6_transferWait_39 rfl 1 rfl ?_
      obtain ⟨_, e11, hf⟩ := zbind hf
      obtain ⟨x14, h12, e13, hf⟩ := zbind2 hf
      refine zr_callV_r C0 cv_X6_234_X6 rfl (zcko e11) (m_X6_isDelayOver C0.2.2.2.2.2.2.1 e13) (by decide) (by decide) rfl rfl (Nat.le_of_ble_eq_true rfl) dX6_transferWait_40 rfl ?_
      refine zr_if_eq C0 (tgt := 50) dX6_transferWait_43 (by decide) (fun c15 => ?_) (fun c15 => ?_)
      · have hf := zif_t c15 hf
        refine zr_aload_n C0 dX6_transferWait_50 rfl 0 rfl ?_
        obtain ⟨x16, e17, hf⟩ := zbind hf
        refine zr_get C0 fl_X6_9_X6 dX6_transferWait_51 (zgR e17) ?_
        refine zr_bipush C0 (v := 9) dX6_transferWait_54 (by decide) ?_
        obtain ⟨x18, e19, hf⟩ := zbind hf
        refine zr_lald C0 dX6_transferWait_56 e19 ?_
        refine zr_aload_n C0 dX6_transferWait_57 rfl 0 rfl ?_
        obtain ⟨x20, e21, hf⟩ := zbind hf
        refine zr_get C0 fl_X6_9_X6 dX6_transferWait_58 (zgR e21) ?_
        refine zr_iconst C0 (v := 0) dX6_transferWait_61 (by decide) ?_
        obtain ⟨x22, e23, hf⟩ := zbind hf
        refine zr_lald C0 dX6_transferWait_62 e23 ?_
        refine zr_lsub C0 dX6_transferWait_63 ?_
        refine zr_aload_n C0 dX6_transferWait_64 rfl 0 rfl ?_
        refine zr_iload_n C0 dX6_transferWait_65 rfl 1 rfl ?_
        refine zr_bipush C0 (v := 12) dX6_transferWait_66 (by decide) ?_
        obtain ⟨_, e24, hf⟩ := zbind hf
        obtain ⟨x27, h25, e26, hf⟩ := zbind2 hf
        refine zr_callV_r C0 cv_X6_63_X6 rfl (zcko e24) (m_X6_of C0.2.2.2.2.2.2.1 e26) (by decide) (by decide) rfl rfl (Nat.le_of_ble_eq_true rfl) dX6_transferWait_68 rfl ?_
        refine zr_ladd C0 dX6_transferWait_71 ?_
        refine zr_l2i C0 dX6_transferWait_72 ?_
        refine zr_sub [] rfl ?_
        exact w_X6_transferWait_b73 C0 hf
      · have hf := zif_f c15 hf
        refine zr_iconst C0 (v := 0) dX6_transferWait_46 (by decide) ?_
        refine zr_goto C0 (tgt := 73) dX6_transferWait_47 (by decide) ?_
        refine zr_sub [] rfl ?_
        exact w_X6_transferWait_b73 C0 hf
    · have hf := zif_t c10 hf
      refine zr_iconst C0 (v := -1) dX6_transferWait_36 (by decide) ?_
      refine zretW hf ?_
      exact zr_iret C0 (ty := .int) rfl rfl dX6_transferWait_37 rfl
  · have hf := zif_f c5 hf
    refine zr_iconst C0 (v := 0) dX6_transferWait_26 (by decide) ?_
    refine zretW hf ?_
    exact zr_iret C0 (ty := .int) rfl rfl dX6_transferWait_27 rfl
def f_X6_transferWait_b0 (E : zE) (p0 : Nat) (p1 : Int32) (h : zH) : Option (Int32 × zH) :=
  (pF h p0 1 2 (.int (0 : Int32))).bind fun h1 =>
  (cko h1 p0 1).bind fun _ =>
  bnd2 (f_X6_isFranchisee E p0 p1 h1) fun x6 h4 =>
  if x6 = 0 then (
    f_X6_transferWait_b19 E p0 p1 p0 (1 : Int32) h4
  ) else (
    f_X6_transferWait_b19 E p0 p1 p0 (0 : Int32) h4
  )
theorem w_X6_transferWait_b0 (C0 : zCx p l e R s m args below meth c D B0 2 "FranchiseLedgerModel" cX6_transferWait E 3 106 (Option.some Jvm.ClassFile.FieldType.int) "transferWait") {r : Int32} {h' : zH} {p0 : Nat} {p1 : Int32} {h : zH} (hf : f_X6_transferWait_b0 E p0 p1 h = some (r, h')) : zW p l e R s m args below meth c D B0 2 (zEnd D B0 R below args s (zoI r) h') h 0 [(0, .ref p0), (1, .int p1)] [] := by
  unfold f_X6_transferWait_b0 at hf
  refine zr_aload_n C0 dX6_transferWait_0 rfl 0 rfl ?_
  refine zr_iconst C0 (v := 0) dX6_transferWait_1 (by decide) ?_
  obtain ⟨h1, e2, hf⟩ := zbind hf
  refine zr_put C0 pl_X6_50_X6 dX6_transferWait_2 (fun h => by cases h) rfl rfl e2 ?_
  refine zr_aload_n C0 dX6_transferWait_5 rfl 0 rfl ?_
  refine zr_aload_n C0 dX6_transferWait_6 rfl 0 rfl ?_
  refine zr_iload_n C0 dX6_transferWait_7 rfl 1 rfl ?_
  obtain ⟨_, e3, hf⟩ := zbind hf
  obtain ⟨x6, h4, e5, hf⟩ := zbind2 hf
  refine zr_callV_r C0 cv_X6_85_X6 rfl (zcko e3) (m_X6_isFranchisee C0.2.2.2.2.2.2.1 e5) (by decide) (by decide) rfl rfl (Nat.le_of_ble_eq_true rfl) dX6_transferWait_8 rfl ?_
  refine zr_if_ne C0 (tgt := 18) dX6_transferWait_11 (by decide) (fun c7 => ?_) (fun c7 => ?_)
  · have hf := zif_f c7 hf
    refine zr_iconst C0 (v := 0) dX6_transferWait_18 (by decide) ?_
    exact w_X6_transferWait_b19 C0 hf
  · have hf := zif_t c7 hf
    refine zr_iconst C0 (v := 1) dX6_transferWait_14 (by decide) ?_
    refine zr_goto C0 (tgt := 19) dX6_transferWait_15 (by decide) ?_
    exact w_X6_transferWait_b19 C0 hf
def f_X6_transferWait (E : zE) (p0 : Nat) (p1 : Int32) (h : zH) : Option (Int32 × zH) := f_X6_transferWait_b0 E p0 p1 h
theorem m_X6_transferWait {l : Launch} (hst : l.stackTraces = false) {D : zD} {B0 : Nat} {E : zE} {p0 : Nat} {p1 : Int32} {h h' : zH} {r : Int32} (hf : f_X6_transferWait E p0 p1 h = some (r, h')) : zMet l yX6_transferWait (ws_ yX6_transferWait cX6_transferWait 2 (Option.some Jvm.ClassFile.FieldType.int)) 3 106 D B0 E [.ref p0, .int p1] h (zoI r) h' := by
  unfold f_X6_transferWait at hf
  refine zMet_of hst (by decide +kernel) rfl rfl (Nat.le_of_ble_eq_true rfl) (fun p e R s m below meth c C0 hno => ?_)
  show zW _ _ _ _ _ _ _ _ _ _ _ _ _ _ _ _ [(0, .ref p0), (1, .int p1)] []
  exact w_X6_transferWait_b0 C0 hf
def f_X6_generation_b37 (E : zE) (s0 : Int32) (h : zH) : Option (Int32 × zH) :=
  some (s0, h)
theorem w_X6_generation_b37 (C0 : zCx p l e R s m args below meth c D B0 2 "FranchiseLedgerModel" cX6_generation E 3 106 (Option.some Jvm.ClassFile.FieldType.int) "generation") {r : Int32} {h' : zH} {s0 : Int32} {h : zH} (hf : f_X6_generation_b37 E s0 h = some (r, h')) : zW p l e R s m args below meth c D B0 2 (zEnd D B0 R below args s (zoI r) h') h 37 [] [.int s0] := by
  unfold f_X6_generation_b37 at hf
  refine zretW hf ?_
  exact zr_iret C0 (ty := .int) rfl rfl dX6_generation_37 rfl
def f_X6_generation_b19 (E : zE) (p0 : Nat) (p1 : Int32) (s0 : Nat) (s1 : Int32) (h : zH) : Option (Int32 × zH) :=
  (cko h s0 1).bind fun _ =>
  bnd2 (f_X6_throwsIf E s0 s1 (1 : Int32) h) fun x4 h2 =>
  if x4 = 0 then (
    (cko h2 p0 1).bind fun _ =>
    bnd2 (f_X6_of E p0 p1 (5 : Int32) h2) fun x9 h7 =>
    f_X6_generation_b37 E (x9.toInt32) h7
  ) else (
    f_X6_generation_b37 E (0 : Int32) h2
  )
theorem w_X6_generation_b19 (C0 : zCx p l e R s m args below meth c D B0 2 "FranchiseLedgerModel" cX6_generation E 3 106 (Option.some Jvm.ClassFile.FieldType.int) "generation") {r : Int32} {h' : zH} {p0 : Nat} {p1 : Int32} {s0 : Nat} {s1 : Int32} {h : zH} (hf : f_X6_generation_b19 E p0 p1 s0 s1 h = some (r, h')) : zW p l e R s m args below meth c D B0 2 (zEnd D B0 R below args s (zoI r) h') h 19 [(0, .ref p0), (1, .int p1)] [.int s1, .ref s0] := by
  unfold f_X6_generation_b19 at hf
  refine zr_iconst C0 (v := 1) dX6_generation_19 (by decide) ?_
  obtain ⟨_, e1, hf⟩ := zbind hf
  obtain ⟨x4, h2, e3, hf⟩ := zbind2 hf
  refine zr_callV_r C0 cv_X6_81_X6 rfl (zcko e1) (m_X6_throwsIf C0.2.2.2.2.2.2.1 e3) (by decide) (by decide) rfl rfl (Nat.le_of_ble_eq_true rfl) dX6_generation_20 rfl ?_
  refine zr_if_eq C0 (tgt := 30) dX6_generation_23 (by decide) (fun c5 => ?_) (fun c5 => ?_)
  · have hf := zif_t c5 hf
    refine zr_aload_n C0 dX6_generation_30 rfl 0 rfl ?_
    refine zr_iload_n C0 dX6_generation_31 rfl 1 rfl ?_
    refine zr_iconst C0 (v := 5) dX6_generation_32 (by decide) ?_
    obtain ⟨_, e6, hf⟩ := zbind hf
    obtain ⟨x9, h7, e8, hf⟩ := zbind2 hf
    refine zr_callV_r C0 cv_X6_63_X6 rfl (zcko e6) (m_X6_of C0.2.2.2.2.2.2.1 e8) (by decide) (by decide) rfl rfl (Nat.le_of_ble_eq_true rfl) dX6_generation_33 rfl ?_
    refine zr_l2i C0 dX6_generation_36 ?_
    refine zr_sub [] rfl ?_
    exact w_X6_generation_b37 C0 hf
  · have hf := zif_f c5 hf
    refine zr_iconst C0 (v := 0) dX6_generation_26 (by decide) ?_
    refine zr_goto C0 (tgt := 37) dX6_generation_27 (by decide) ?_
    refine zr_sub [] rfl ?_
    exact w_X6_generation_b37 C0 hf
def f_X6_generation_b0 (E : zE) (p0 : Nat) (p1 : Int32) (h : zH) : Option (Int32 × zH) :=
  (pF h p0 1 2 (.int (0 : Int32))).bind fun h1 =>
  (cko h1 p0 1).bind fun _ =>
  bnd2 (f_X6_isFranchisee E p0 p1 h1) fun x6 h4 =>
  if x6 = 0 then (
    f_X6_generation_b19 E p0 p1 p0 (1 : Int32) h4
  ) else (
    f_X6_generation_b19 E p0 p1 p0 (0 : Int32) h4
  )
theorem w_X6_generation_b0 (C0 : zCx p l e R s m args below meth c D B0 2 "FranchiseLedgerModel" cX6_generation E 3 106 (Option.some Jvm.ClassFile.FieldType.int) "generation") {r : Int32} {h' : zH} {p0 : Nat} {p1 : Int32} {h : zH} (hf : f_X6_generation_b0 E p0 p1 h = some (r, h')) : zW p l e R s m args below meth c D B0 2 (zEnd D B0 R below args s (zoI r) h') h 0 [(0, .ref p0), (1, .int p1)] [] := by
  unfold f_X6_generation_b0 at hf
  refine zr_aload_n C0 dX6_generation_0 rfl 0 rfl ?_
  refine zr_iconst C0 (v := 0) dX6_generation_1 (by decide) ?_
  obtain ⟨h1, e2, hf⟩ := zbind hf
  refine zr_put C0 pl_X6_50_X6 dX6_generation_2 (fun h => by cases h) rfl rfl e2 ?_
  refine zr_aload_n C0 dX6_generation_5 rfl 0 rfl ?_
  refine zr_aload_n C0 dX6_generation_6 rfl 0 rfl ?_
  refine zr_iload_n C0 dX6_generation_7 rfl 1 rfl ?_
  obtain ⟨_, e3, hf⟩ := zbind hf
  obtain ⟨x6, h4, e5, hf⟩ := zbind2 hf
  refine zr_callV_r C0 cv_X6_85_X6 rfl (zcko e3) (m_X6_isFranchisee C0.2.2.2.2.2.2.1 e5) (by decide) (by decide) rfl rfl (Nat.le_of_ble_eq_true rfl) dX6_generation_8 rfl ?_
  refine zr_if_ne C0 (tgt := 18) dX6_generation_11 (by decide) (fun c7 => ?_) (fun c7 => ?_)
  · have hf := zif_f c7 hf
    refine zr_iconst C0 (v := 0) dX6_generation_18 (by decide) ?_
    exact w_X6_generation_b19 C0 hf
  · have hf := zif_t c7 hf
    refine zr_iconst C0 (v := 1) dX6_generation_14 (by decide) ?_
    refine zr_goto C0 (tgt := 19) dX6_generation_15 (by decide) ?_
    exact w_X6_generation_b19 C0 hf
def f_X6_generation (E : zE) (p0 : Nat) (p1 : Int32) (h : zH) : Option (Int32 × zH) := f_X6_generation_b0 E p0 p1 h
theorem m_X6_generation {l : Launch} (hst : l.stackTraces = false) {D : zD} {B0 : Nat} {E : zE} {p0 : Nat} {p1 : Int32} {h h' : zH} {r : Int32} (hf : f_X6_generation E p0 p1 h = some (r, h')) : zMet l yX6_generation (ws_ yX6_generation cX6_generation 2 (Option.some Jvm.ClassFile.FieldType.int)) 3 106 D B0 E [.ref p0, .int p1] h (zoI r) h' := by
  unfold f_X6_generation at hf
  refine zMet_of hst (by decide +kernel) rfl rfl (Nat.le_of_ble_eq_true rfl) (fun p e R s m below meth c C0 hno => ?_)
  show zW _ _ _ _ _ _ _ _ _ _ _ _ _ _ _ _ [(0, .ref p0), (1, .int p1)] []
  exact w_X6_generation_b0 C0 hf
def f_X6_worth_b37 (E : zE) (s0 : Int32) (h : zH) : Option (Int32 × zH) :=
  some (s0, h)
theorem w_X6_worth_b37 (C0 : zCx p l e R s m args below meth c D B0 2 "FranchiseLedgerModel" cX6_worth E 3 106 (Option.some Jvm.ClassFile.FieldType.int) "worth") {r : Int32} {h' : zH} {s0 : Int32} {h : zH} (hf : f_X6_worth_b37 E s0 h = some (r, h')) : zW p l e R s m args below meth c D B0 2 (zEnd D B0 R below args s (zoI r) h') h 37 [] [.int s0] := by
  unfold f_X6_worth_b37 at hf
  refine zretW hf ?_
  exact zr_iret C0 (ty := .int) rfl rfl dX6_worth_37 rfl
def f_X6_worth_b19 (E : zE) (p0 : Nat) (p1 : Int32) (s0 : Nat) (s1 : Int32) (h : zH) : Option (Int32 × zH) :=
  (cko h s0 1).bind fun _ =>
  bnd2 (f_X6_throwsIf E s0 s1 (1 : Int32) h) fun x4 h2 =>
  if x4 = 0 then (
    (cko h2 p0 1).bind fun _ =>
    bnd2 (f_X6_of E p0 p1 (2 : Int32) h2) fun x9 h7 =>
    f_X6_worth_b37 E (x9.toInt32) h7
  ) else (
    f_X6_worth_b37 E (0 : Int32) h2
  )
theorem w_X6_worth_b19 (C0 : zCx p l e R s m args below meth c D B0 2 "FranchiseLedgerModel" cX6_worth E 3 106 (Option.some Jvm.ClassFile.FieldType.int) "worth") {r : Int32} {h' : zH} {p0 : Nat} {p1 : Int32} {s0 : Nat} {s1 : Int32} {h : zH} (hf : f_X6_worth_b19 E p0 p1 s0 s1 h = some (r, h')) : zW p l e R s m args below meth c D B0 2 (zEnd D B0 R below args s (zoI r) h') h 19 [(0, .ref p0), (1, .int p1)] [.int s1, .ref s0] := by
  unfold f_X6_worth_b19 at hf
  refine zr_iconst C0 (v := 1) dX6_worth_19 (by decide) ?_
  obtain ⟨_, e1, hf⟩ := zbind hf
  obtain ⟨x4, h2, e3, hf⟩ := zbind2 hf
  refine zr_callV_r C0 cv_X6_81_X6 rfl (zcko e1) (m_X6_throwsIf C0.2.2.2.2.2.2.1 e3) (by decide) (by decide) rfl rfl (Nat.le_of_ble_eq_true rfl) dX6_worth_20 rfl ?_
  refine zr_if_eq C0 (tgt := 30) dX6_worth_23 (by decide) (fun c5 => ?_) (fun c5 => ?_)
  · have hf := zif_t c5 hf
    refine zr_aload_n C0 dX6_worth_30 rfl 0 rfl ?_
    refine zr_iload_n C0 dX6_worth_31 rfl 1 rfl ?_
    refine zr_iconst C0 (v := 2) dX6_worth_32 (by decide) ?_
    obtain ⟨_, e6, hf⟩ := zbind hf
    obtain ⟨x9, h7, e8, hf⟩ := zbind2 hf
    refine zr_callV_r C0 cv_X6_63_X6 rfl (zcko e6) (m_X6_of C0.2.2.2.2.2.2.1 e8) (by decide) (by decide) rfl rfl (Nat.le_of_ble_eq_true rfl) dX6_worth_33 rfl ?_
    refine zr_l2i C0 dX6_worth_36 ?_
    refine zr_sub [] rfl ?_
    exact w_X6_worth_b37 C0 hf
  · have hf := zif_f c5 hf
    refine zr_iconst C0 (v := 0) dX6_worth_26 (by decide) ?_
    refine zr_goto C0 (tgt := 37) dX6_worth_27 (by decide) ?_
    refine zr_sub [] rfl ?_
    exact w_X6_worth_b37 C0 hf
def f_X6_worth_b0 (E : zE) (p0 : Nat) (p1 : Int32) (h : zH) : Option (Int32 × zH) :=
  (pF h p0 1 2 (.int (0 : Int32))).bind fun h1 =>
  (cko h1 p0 1).bind fun _ =>
  bnd2 (f_X6_isFranchisee E p0 p1 h1) fun x6 h4 =>
  if x6 = 0 then (
    f_X6_worth_b19 E p0 p1 p0 (1 : Int32) h4
  ) else (
    f_X6_worth_b19 E p0 p1 p0 (0 : Int32) h4
  )
theorem w_X6_worth_b0 (C0 : zCx p l e R s m args below meth c D B0 2 "FranchiseLedgerModel" cX6_worth E 3 106 (Option.some Jvm.ClassFile.FieldType.int) "worth") {r : Int32} {h' : zH} {p0 : Nat} {p1 : Int32} {h : zH} (hf : f_X6_worth_b0 E p0 p1 h = some (r, h')) : zW p l e R s m args below meth c D B0 2 (zEnd D B0 R below args s (zoI r) h') h 0 [(0, .ref p0), (1, .int p1)] [] := by
  unfold f_X6_worth_b0 at hf
  refine zr_aload_n C0 dX6_worth_0 rfl 0 rfl ?_
  refine zr_iconst C0 (v := 0) dX6_worth_1 (by decide) ?_
  obtain ⟨h1, e2, hf⟩ := zbind hf
  refine zr_put C0 pl_X6_50_X6 dX6_worth_2 (fun h => by cases h) rfl rfl e2 ?_
  refine zr_aload_n C0 dX6_worth_5 rfl 0 rfl ?_
  refine zr_aload_n C0 dX6_worth_6 rfl 0 rfl ?_
  refine zr_iload_n C0 dX6_worth_7 rfl 1 rfl ?_
  obtain ⟨_, e3, hf⟩ := zbind hf
  obtain ⟨x6, h4, e5, hf⟩ := zbind2 hf
  refine zr_callV_r C0 cv_X6_85_X6 rfl (zcko e3) (m_X6_isFranchisee C0.2.2.2.2.2.2.1 e5) (by decide) (by decide) rfl rfl (Nat.le_of_ble_eq_true rfl) dX6_worth_8 rfl ?_
  refine zr_if_ne C0 (tgt := 18) dX6_worth_11 (by decide) (fun c7 => ?_) (fun c7 => ?_)
  · have hf := zif_f c7 hf
    refine zr_iconst C0 (v := 0) dX6_worth_18 (by decide) ?_
    exact w_X6_worth_b19 C0 hf
  · have hf := zif_t c7 hf
    refine zr_iconst C0 (v := 1) dX6_worth_14 (by decide) ?_
    refine zr_goto C0 (tgt := 19) dX6_worth_15 (by decide) ?_
    exact w_X6_worth_b19 C0 hf
def f_X6_worth (E : zE) (p0 : Nat) (p1 : Int32) (h : zH) : Option (Int32 × zH) := f_X6_worth_b0 E p0 p1 h
theorem m_X6_worth {l : Launch} (hst : l.stackTraces = false) {D : zD} {B0 : Nat} {E : zE} {p0 : Nat} {p1 : Int32} {h h' : zH} {r : Int32} (hf : f_X6_worth E p0 p1 h = some (r, h')) : zMet l yX6_worth (ws_ yX6_worth cX6_worth 2 (Option.some Jvm.ClassFile.FieldType.int)) 3 106 D B0 E [.ref p0, .int p1] h (zoI r) h' := by
  unfold f_X6_worth at hf
  refine zMet_of hst (by decide +kernel) rfl rfl (Nat.le_of_ble_eq_true rfl) (fun p e R s m below meth c C0 hno => ?_)
  show zW _ _ _ _ _ _ _ _ _ _ _ _ _ _ _ _ [(0, .ref p0), (1, .int p1)] []
  exact w_X6_worth_b0 C0 hf
def f_X6_append_b0 (E : zE) (p0 : Nat) (p1 : Int32) (h : zH) : Option (Unit × zH) :=
  (gR h p0 1 6).bind fun x1 =>
  (gI h p0 1 7).bind fun x3 =>
  (sI h x1 2 x3 ((p1.toInt8.toInt32).toInt8.toInt32)).bind fun h5 =>
  (gI h5 p0 1 7).bind fun x7 =>
  (pF h5 p0 1 7 (.int (x7 + (1 : Int32)))).bind fun h9 =>
  some ((), h9)
theorem w_X6_append_b0 (C0 : zCx p l e R s m args below meth c D B0 2 "FranchiseLedgerModel" cX6_append E 1 60 (Option.none : Option Jvm.ClassFile.FieldType) "append") {r : Unit} {h' : zH} {p0 : Nat} {p1 : Int32} {h : zH} (hf : f_X6_append_b0 E p0 p1 h = some (r, h')) : zW p l e R s m args below meth c D B0 2 (zEnd D B0 R below args s (zoV r) h') h 0 [(0, .ref p0), (1, .int p1)] [] := by
  unfold f_X6_append_b0 at hf
  refine zr_aload_n C0 dX6_append_0 rfl 0 rfl ?_
  obtain ⟨x1, e2, hf⟩ := zbind hf
  refine zr_get C0 fl_X6_26_X6 dX6_append_1 (zgR e2) ?_
  refine zr_aload_n C0 dX6_append_4 rfl 0 rfl ?_
  obtain ⟨x3, e4, hf⟩ := zbind hf
  refine zr_get C0 fl_X6_266_X6 dX6_append_5 (zgI e4) ?_
  refine zr_iload_n C0 dX6_append_8 rfl 1 rfl ?_
  refine zr_i2b C0 dX6_append_9 ?_
  obtain ⟨h5, e6, hf⟩ := zbind hf
  refine zr_bast C0 dX6_append_10 e6 ?_
  refine zr_aload_n C0 dX6_append_11 rfl 0 rfl ?_
  refine zr_dup C0 dX6_append_12 rfl ?_
  obtain ⟨x7, e8, hf⟩ := zbind hf
  refine zr_get C0 fl_X6_266_X6 dX6_append_13 (zgI e8) ?_
  refine zr_iconst C0 (v := 1) dX6_append_16 (by decide) ?_
  refine zr_iadd C0 dX6_append_17 ?_
  obtain ⟨h9, e10, hf⟩ := zbind hf
  refine zr_put C0 pl_X6_266_X6 dX6_append_18 (fun h => by cases h) rfl rfl e10 ?_
  refine zretW hf ?_
  exact zr_vret C0 rfl dX6_append_21 rfl
def f_X6_append (E : zE) (p0 : Nat) (p1 : Int32) (h : zH) : Option (Unit × zH) := f_X6_append_b0 E p0 p1 h
theorem m_X6_append {l : Launch} (hst : l.stackTraces = false) {D : zD} {B0 : Nat} {E : zE} {p0 : Nat} {p1 : Int32} {h h' : zH} {r : Unit} (hf : f_X6_append E p0 p1 h = some (r, h')) : zMet l yX6_append (ws_ yX6_append cX6_append 2 (Option.none : Option Jvm.ClassFile.FieldType)) 1 60 D B0 E [.ref p0, .int p1] h (zoV r) h' := by
  unfold f_X6_append at hf
  refine zMet_of hst (by decide +kernel) rfl rfl (Nat.le_of_ble_eq_true rfl) (fun p e R s m below meth c C0 hno => ?_)
  show zW _ _ _ _ _ _ _ _ _ _ _ _ _ _ _ _ [(0, .ref p0), (1, .int p1)] []
  exact w_X6_append_b0 C0 hf
def f_X6_pack_b91 (E : zE) (s0 : Int64) (h : zH) : Option (Int64 × zH) :=
  some (s0, h)
theorem w_X6_pack_b91 (C0 : zCx p l e R s m args below meth c D B0 7 "FranchiseLedgerModel" cX6_pack E 1 60 (Option.some Jvm.ClassFile.FieldType.long) "pack") {r : Int64} {h' : zH} {s0 : Int64} {h : zH} (hf : f_X6_pack_b91 E s0 h = some (r, h')) : zW p l e R s m args below meth c D B0 7 (zEnd D B0 R below args s (zoL r) h') h 91 [] [.long s0] := by
  unfold f_X6_pack_b91 at hf
  refine zretW hf ?_
  exact zr_lret C0 rfl dX6_pack_91 rfl
def f_X6_pack_b65 (E : zE) (p4 : Int32) (s0 : Int64) (h : zH) : Option (Int64 × zH) :=
  if p4 = 0 then (
    f_X6_pack_b91 E s0 h
  ) else (
    f_X6_pack_b91 E (((s0 * (32 : Int64)) + (p4.toInt64)) - (96 : Int64)) h
  )
theorem w_X6_pack_b65 (C0 : zCx p l e R s m args below meth c D B0 7 "FranchiseLedgerModel" cX6_pack E 1 60 (Option.some Jvm.ClassFile.FieldType.long) "pack") {r : Int64} {h' : zH} {p4 : Int32} {s0 : Int64} {h : zH} (hf : f_X6_pack_b65 E p4 s0 h = some (r, h')) : zW p l e R s m args below meth c D B0 7 (zEnd D B0 R below args s (zoL r) h') h 65 [(4, .int p4)] [.long s0] := by
  unfold f_X6_pack_b65 at hf
  refine zr_lstore (i := 5) (lv' := [(5, .long s0), (4, .int p4)]) C0 dX6_pack_65 (by decide) (by first | rfl | simp [zst1, zst2, zcat_rf]) ?_
  refine zr_iload C0 dX6_pack_67 1 rfl ?_
  refine zr_if_ne C0 (tgt := 77) dX6_pack_69 (by decide) (fun c1 => ?_) (fun c1 => ?_)
  · have hf := zif_f c1 hf
    refine zr_lload C0 dX6_pack_77 0 rfl ?_
    refine zr_ldc2 C0 (v := 32) q3049 dX6_pack_79 ?_
    refine zr_lmul C0 dX6_pack_82 ?_
    refine zr_iload C0 dX6_pack_83 1 rfl ?_
    refine zr_i2l C0 dX6_pack_85 ?_
    refine zr_ladd C0 dX6_pack_86 ?_
    refine zr_ldc2 C0 (v := 96) q3048 dX6_pack_87 ?_
    refine zr_lsub C0 dX6_pack_90 ?_
    refine zr_sub [] rfl ?_
    exact w_X6_pack_b91 C0 hf
  · have hf := zif_t c1 hf
    refine zr_lload C0 dX6_pack_72 0 rfl ?_
    refine zr_goto C0 (tgt := 91) dX6_pack_74 (by decide) ?_
    refine zr_sub [] rfl ?_
    exact w_X6_pack_b91 C0 hf
def f_X6_pack_b41 (E : zE) (p3 : Int32) (p4 : Int32) (s0 : Int64) (h : zH) : Option (Int64 × zH) :=
  if p3 = 0 then (
    f_X6_pack_b65 E p4 s0 h
  ) else (
    f_X6_pack_b65 E p4 (((s0 * (32 : Int64)) + (p3.toInt64)) - (96 : Int64)) h
  )
theorem w_X6_pack_b41 (C0 : zCx p l e R s m args below meth c D B0 7 "FranchiseLedgerModel" cX6_pack E 1 60 (Option.some Jvm.ClassFile.FieldType.long) "pack") {r : Int64} {h' : zH} {p3 : Int32} {p4 : Int32} {s0 : Int64} {h : zH} (hf : f_X6_pack_b41 E p3 p4 s0 h = some (r, h')) : zW p l e R s m args below meth c D B0 7 (zEnd D B0 R below args s (zoL r) h') h 41 [(3, .int p3), (4, .int p4)] [.long s0] := by
  unfold f_X6_pack_b41 at hf
  refine zr_lstore (i := 5) (lv' := [(5, .long s0), (3, .int p3), (4, .int p4)]) C0 dX6_pack_41 (by decide) (by first | rfl | simp [zst1, zst2, zcat_rf]) ?_
  refine zr_iload_n C0 dX6_pack_43 rfl 1 rfl ?_
  refine zr_if_ne C0 (tgt := 52) dX6_pack_44 (by decide) (fun c1 => ?_) (fun c1 => ?_)
  · have hf := zif_f c1 hf
    refine zr_lload C0 dX6_pack_52 0 rfl ?_
    refine zr_ldc2 C0 (v := 32) q3049 dX6_pack_54 ?_
    refine zr_lmul C0 dX6_pack_57 ?_
    refine zr_iload_n C0 dX6_pack_58 rfl 1 rfl ?_
    refine zr_i2l C0 dX6_pack_59 ?_
    refine zr_ladd C0 dX6_pack_60 ?_
    refine zr_ldc2 C0 (v := 96) q3048 dX6_pack_61 ?_
    refine zr_lsub C0 dX6_pack_64 ?_
    refine zr_sub [2] rfl ?_
    exact w_X6_pack_b65 C0 hf
  · have hf := zif_t c1 hf
    refine zr_lload C0 dX6_pack_47 0 rfl ?_
    refine zr_goto C0 (tgt := 65) dX6_pack_49 (by decide) ?_
    refine zr_sub [2] rfl ?_
    exact w_X6_pack_b65 C0 hf
def f_X6_pack_b0 (E : zE) (p0 : Int32) (p1 : Int32) (p2 : Int32) (p3 : Int32) (p4 : Int32) (h : zH) : Option (Int64 × zH) :=
  if p2 = 0 then (
    f_X6_pack_b41 E p3 p4 (((((p0.toInt64) - (96 : Int64)) * (32 : Int64)) + (p1.toInt64)) - (96 : Int64)) h
  ) else (
    f_X6_pack_b41 E p3 p4 ((((((((p0.toInt64) - (96 : Int64)) * (32 : Int64)) + (p1.toInt64)) - (96 : Int64)) * (32 : Int64)) + (p2.toInt64)) - (96 : Int64)) h
  )
theorem w_X6_pack_b0 (C0 : zCx p l e R s m args below meth c D B0 7 "FranchiseLedgerModel" cX6_pack E 1 60 (Option.some Jvm.ClassFile.FieldType.long) "pack") {r : Int64} {h' : zH} {p0 : Int32} {p1 : Int32} {p2 : Int32} {p3 : Int32} {p4 : Int32} {h : zH} (hf : f_X6_pack_b0 E p0 p1 p2 p3 p4 h = some (r, h')) : zW p l e R s m args below meth c D B0 7 (zEnd D B0 R below args s (zoL r) h') h 0 [(0, .int p0), (1, .int p1), (2, .int p2), (3, .int p3), (4, .int p4)] [] := by
  unfold f_X6_pack_b0 at hf
  refine zr_iload_n C0 dX6_pack_0 rfl 0 rfl ?_
  refine zr_i2l C0 dX6_pack_1 ?_
  refine zr_ldc2 C0 (v := 96) q3048 dX6_pack_2 ?_
  refine zr_lsub C0 dX6_pack_5 ?_
  refine zr_ldc2 C0 (v := 32) q3049 dX6_pack_6 ?_
  refine zr_lmul C0 dX6_pack_9 ?_
  refine zr_iload_n C0 dX6_pack_10 rfl 1 rfl ?_
  refine zr_i2l C0 dX6_pack_11 ?_
  refine zr_ladd C0 dX6_pack_12 ?_
  refine zr_ldc2 C0 (v := 96) q3048 dX6_pack_13 ?_
  refine zr_lsub C0 dX6_pack_16 ?_
  refine zr_lstore (i := 5) (lv' := [(5, .long (((((p0.toInt64) - (96 : Int64)) * (32 : Int64)) + (p1.toInt64)) - (96 : Int64))), (0, .int p0), (1, .int p1), (2, .int p2), (3, .int p3), (4, .int p4)]) C0 dX6_pack_17 (by decide) (by first | rfl | simp [zst1, zst2, zcat_rf]) ?_
  refine zr_iload_n C0 dX6_pack_19 rfl 3 rfl ?_
  refine zr_if_ne C0 (tgt := 28) dX6_pack_20 (by decide) (fun c1 => ?_) (fun c1 => ?_)
  · have hf := zif_f c1 hf
    refine zr_lload C0 dX6_pack_28 0 rfl ?_
    refine zr_ldc2 C0 (v := 32) q3049 dX6_pack_30 ?_
    refine zr_lmul C0 dX6_pack_33 ?_
    refine zr_iload_n C0 dX6_pack_34 rfl 3 rfl ?_
    refine zr_i2l C0 dX6_pack_35 ?_
    refine zr_ladd C0 dX6_pack_36 ?_
    refine zr_ldc2 C0 (v := 96) q3048 dX6_pack_37 ?_
    refine zr_lsub C0 dX6_pack_40 ?_
    refine zr_sub [4, 5] rfl ?_
    exact w_X6_pack_b41 C0 hf
  · have hf := zif_t c1 hf
    refine zr_lload C0 dX6_pack_23 0 rfl ?_
    refine zr_goto C0 (tgt := 41) dX6_pack_25 (by decide) ?_
    refine zr_sub [4, 5] rfl ?_
    exact w_X6_pack_b41 C0 hf
def f_X6_pack (E : zE) (p0 : Int32) (p1 : Int32) (p2 : Int32) (p3 : Int32) (p4 : Int32) (h : zH) : Option (Int64 × zH) := f_X6_pack_b0 E p0 p1 p2 p3 p4 h
theorem m_X6_pack {l : Launch} (hst : l.stackTraces = false) {D : zD} {B0 : Nat} {E : zE} {p0 : Int32} {p1 : Int32} {p2 : Int32} {p3 : Int32} {p4 : Int32} {h h' : zH} {r : Int64} (hf : f_X6_pack E p0 p1 p2 p3 p4 h = some (r, h')) : zMet l yX6_pack (ws_ yX6_pack cX6_pack 7 (Option.some Jvm.ClassFile.FieldType.long)) 1 60 D B0 E [.int p0, .int p1, .int p2, .int p3, .int p4] h (zoL r) h' := by
  unfold f_X6_pack at hf
  refine zMet_of hst (by decide +kernel) rfl rfl (Nat.le_of_ble_eq_true rfl) (fun p e R s m below meth c C0 hno => ?_)
  show zW _ _ _ _ _ _ _ _ _ _ _ _ _ _ _ _ [(0, .int p0), (1, .int p1), (2, .int p2), (3, .int p3), (4, .int p4)] []
  exact w_X6_pack_b0 C0 hf
def f_X6_partName_b0 (E : zE) (p0 : Int32) (h : zH) : Option (Int64 × zH) :=
  if p0 = 0 then (
    bnd2 (f_X6_pack E (114 : Int32) (111 : Int32) (121 : Int32) (97 : Int32) (108 : Int32) h) fun x4 h2 =>
    bnd2 (f_X6_pack E (116 : Int32) (121 : Int32) (0 : Int32) (0 : Int32) (0 : Int32) h2) fun x7 h5 =>
    some (((x4 * (1024 : Int64)) + x7), h5)
  ) else (
  if p0 = 1 then (
    bnd2 (f_X6_pack E (97 : Int32) (100 : Int32) (0 : Int32) (0 : Int32) (0 : Int32) h) fun x11 h9 =>
    some (x11, h9)
  ) else (
  if p0 = 2 then (
    bnd2 (f_X6_pack E (105 : Int32) (110 : Int32) (116 : Int32) (101 : Int32) (114 : Int32) h) fun x15 h13 =>
    bnd2 (f_X6_pack E (101 : Int32) (115 : Int32) (116 : Int32) (0 : Int32) (0 : Int32) h13) fun x18 h16 =>
    some (((x15 * (32768 : Int64)) + x18), h16)
  ) else (
  if p0 = 3 then (
    bnd2 (f_X6_pack E (112 : Int32) (97 : Int32) (105 : Int32) (100 : Int32) (0 : Int32) h) fun x22 h20 =>
    some (x22, h20)
  ) else (
  if p0 = 4 then (
    bnd2 (f_X6_pack E (114 : Int32) (101 : Int32) (99 : Int32) (101 : Int32) (105 : Int32) h) fun x26 h24 =>
    bnd2 (f_X6_pack E (118 : Int32) (101 : Int32) (100 : Int32) (0 : Int32) (0 : Int32) h24) fun x29 h27 =>
    some (((x26 * (32768 : Int64)) + x29), h27)
  ) else (
  if p0 = 5 then (
    bnd2 (f_X6_pack E (100 : Int32) (117 : Int32) (101 : Int32) (0 : Int32) (0 : Int32) h) fun x33 h31 =>
    some (x33, h31)
  ) else (
    bnd2 (f_X6_pack E (98 : Int32) (97 : Int32) (108 : Int32) (97 : Int32) (110 : Int32) h) fun x36 h34 =>
    bnd2 (f_X6_pack E (99 : Int32) (101 : Int32) (0 : Int32) (0 : Int32) (0 : Int32) h34) fun x39 h37 =>
    some (((x36 * (1024 : Int64)) + x39), h37)
  ))))))
theorem w_X6_partName_b0 (C0 : zCx p l e R s m args below meth c D B0 1 "FranchiseLedgerModel" cX6_partName E 2 86 (Option.some Jvm.ClassFile.FieldType.long) "partName") {r : Int64} {h' : zH} {p0 : Int32} {h : zH} (hf : f_X6_partName_b0 E p0 h = some (r, h')) : zW p l e R s m args below meth c D B0 1 (zEnd D B0 R below args s (zoL r) h') h 0 [(0, .int p0)] [] := by
  unfold f_X6_partName_b0 at hf
  refine zr_iload_n C0 dX6_partName_0 rfl 0 rfl ?_
  rcases Decidable.em (p0 = 0) with c1 | c1
  · have hf := zif_t c1 hf
    refine zr_tableIn C0 (v := 0) (tgt := 40) dX6_partName_1 c1 (by decide) (by decide) rfl (by decide) ?_
    refine zr_bipush C0 (v := 114) dX6_partName_40 (by decide) ?_
    refine zr_bipush C0 (v := 111) dX6_partName_42 (by decide) ?_
    refine zr_bipush C0 (v := 121) dX6_partName_44 (by decide) ?_
    refine zr_bipush C0 (v := 97) dX6_partName_46 (by decide) ?_
    refine zr_bipush C0 (v := 108) dX6_partName_48 (by decide) ?_
    obtain ⟨x4, h2, e3, hf⟩ := zbind2 hf
    refine zr_callS_r C0 cv_X6_278 (m_X6_pack C0.2.2.2.2.2.2.1 e3) (by decide) (by decide) rfl rfl (Nat.le_of_ble_eq_true rfl) dX6_partName_50 rfl ?_
    refine zr_ldc2 C0 (v := 1024) q3050 dX6_partName_53 ?_
    refine zr_lmul C0 dX6_partName_56 ?_
    refine zr_bipush C0 (v := 116) dX6_partName_57 (by decide) ?_
    refine zr_bipush C0 (v := 121) dX6_partName_59 (by decide) ?_
    refine zr_iconst C0 (v := 0) dX6_partName_61 (by decide) ?_
    refine zr_iconst C0 (v := 0) dX6_partName_62 (by decide) ?_
    refine zr_iconst C0 (v := 0) dX6_partName_63 (by decide) ?_
    obtain ⟨x7, h5, e6, hf⟩ := zbind2 hf
    refine zr_callS_r C0 cv_X6_278 (m_X6_pack C0.2.2.2.2.2.2.1 e6) (by decide) (by decide) rfl rfl (Nat.le_of_ble_eq_true rfl) dX6_partName_64 rfl ?_
    refine zr_ladd C0 dX6_partName_67 ?_
    refine zretW hf ?_
    exact zr_lret C0 rfl dX6_partName_68 rfl
  have hf := zif_f c1 hf
  rcases Decidable.em (p0 = 1) with c8 | c8
  · have hf := zif_t c8 hf
    refine zr_tableIn C0 (v := 1) (tgt := 69) dX6_partName_1 c8 (by decide) (by decide) rfl (by decide) ?_
    refine zr_bipush C0 (v := 97) dX6_partName_69 (by decide) ?_
    refine zr_bipush C0 (v := 100) dX6_partName_71 (by decide) ?_
    refine zr_iconst C0 (v := 0) dX6_partName_73 (by decide) ?_
    refine zr_iconst C0 (v := 0) dX6_partName_74 (by decide) ?_
    refine zr_iconst C0 (v := 0) dX6_partName_75 (by decide) ?_
    obtain ⟨x11, h9, e10, hf⟩ := zbind2 hf
    refine zr_callS_r C0 cv_X6_278 (m_X6_pack C0.2.2.2.2.2.2.1 e10) (by decide) (by decide) rfl rfl (Nat.le_of_ble_eq_true rfl) dX6_partName_76 rfl ?_
    refine zretW hf ?_
    exact zr_lret C0 rfl dX6_partName_79 rfl
  have hf := zif_f c8 hf
  rcases Decidable.em (p0 = 2) with c12 | c12
  · have hf := zif_t c12 hf
    refine zr_tableIn C0 (v := 2) (tgt := 80) dX6_partName_1 c12 (by decide) (by decide) rfl (by decide) ?_
    refine zr_bipush C0 (v := 105) dX6_partName_80 (by decide) ?_
    refine zr_bipush C0 (v := 110) dX6_partName_82 (by decide) ?_
    refine zr_bipush C0 (v := 116) dX6_partName_84 (by decide) ?_
    refine zr_bipush C0 (v := 101) dX6_partName_86 (by decide) ?_
    refine zr_bipush C0 (v := 114) dX6_partName_88 (by decide) ?_
    obtain ⟨x15, h13, e14, hf⟩ := zbind2 hf
    refine zr_callS_r C0 cv_X6_278 (m_X6_pack C0.2.2.2.2.2.2.1 e14) (by decide) (by decide) rfl rfl (Nat.le_of_ble_eq_true rfl) dX6_partName_90 rfl ?_
    refine zr_ldc2 C0 (v := 32768) q3051 dX6_partName_93 ?_
    refine zr_lmul C0 dX6_partName_96 ?_
    refine zr_bipush C0 (v := 101) dX6_partName_97 (by decide) ?_
    refine zr_bipush C0 (v := 115) dX6_partName_99 (by decide) ?_
    refine zr_bipush C0 (v := 116) dX6_partName_101 (by decide) ?_
    refine zr_iconst C0 (v := 0) dX6_partName_103 (by decide) ?_
    refine zr_iconst C0 (v := 0) dX6_partName_104 (by decide) ?_
    obtain ⟨x18, h16, e17, hf⟩ := zbind2 hf
    refine zr_callS_r C0 cv_X6_278 (m_X6_pack C0.2.2.2.2.2.2.1 e17) (by decide) (by decide) rfl rfl (Nat.le_of_ble_eq_true rfl) dX6_partName_105 rfl ?_
    refine zr_ladd C0 dX6_partName_108 ?_
    refine zretW hf ?_
    exact zr_lret C0 rfl dX6_partName_109 rfl
  have hf := zif_f c12 hf
  rcases Decidable.em (p0 = 3) with c19 | c19
  · have hf := zif_t c19 hf
    refine zr_tableIn C0 (v := 3) (tgt := 110) dX6_partName_1 c19 (by decide) (by decide) rfl (by decide) ?_
    refine zr_bipush C0 (v := 112) dX6_partName_110 (by decide) ?_
    refine zr_bipush C0 (v := 97) dX6_partName_112 (by decide) ?_
    refine zr_bipush C0 (v := 105) dX6_partName_114 (by decide) ?_
    refine zr_bipush C0 (v := 100) dX6_partName_116 (by decide) ?_
    refine zr_iconst C0 (v := 0) dX6_partName_118 (by decide) ?_
    obtain ⟨x22, h20, e21, hf⟩ := zbind2 hf
    refine zr_callS_r C0 cv_X6_278 (m_X6_pack C0.2.2.2.2.2.2.1 e21) (by decide) (by decide) rfl rfl (Nat.le_of_ble_eq_true rfl) dX6_partName_119 rfl ?_
    refine zretW hf ?_
    exact zr_lret C0 rfl dX6_partName_122 rfl
  have hf := zif_f c19 hf
  rcases Decidable.em (p0 = 4) with c23 | c23
  · have hf := zif_t c23 hf
    refine zr_tableIn C0 (v := 4) (tgt := 123) dX6_partName_1 c23 (by decide) (by decide) rfl (by decide) ?_
    refine zr_bipush C0 (v := 114) dX6_partName_123 (by decide) ?_
    refine zr_bipush C0 (v := 101) dX6_partName_125 (by decide) ?_
    refine zr_bipush C0 (v := 99) dX6_partName_127 (by decide) ?_
    refine zr_bipush C0 (v := 101) dX6_partName_129 (by decide) ?_
    refine zr_bipush C0 (v := 105) dX6_partName_131 (by decide) ?_
    obtain ⟨x26, h24, e25, hf⟩ := zbind2 hf
    refine zr_callS_r C0 cv_X6_278 (m_X6_pack C0.2.2.2.2.2.2.1 e25) (by decide) (by decide) rfl rfl (Nat.le_of_ble_eq_true rfl) dX6_partName_133 rfl ?_
    refine zr_ldc2 C0 (v := 32768) q3051 dX6_partName_136 ?_
    refine zr_lmul C0 dX6_partName_139 ?_
    refine zr_bipush C0 (v := 118) dX6_partName_140 (by decide) ?_
    refine zr_bipush C0 (v := 101) dX6_partName_142 (by decide) ?_
    refine zr_bipush C0 (v := 100) dX6_partName_144 (by decide) ?_
    refine zr_iconst C0 (v := 0) dX6_partName_146 (by decide) ?_
    refine zr_iconst C0 (v := 0) dX6_partName_147 (by decide) ?_
    obtain ⟨x29, h27, e28, hf⟩ := zbind2 hf
    refine zr_callS_r C0 cv_X6_278 (m_X6_pack C0.2.2.2.2.2.2.1 e28) (by decide) (by decide) rfl rfl (Nat.le_of_ble_eq_true rfl) dX6_partName_148 rfl ?_
    refine zr_ladd C0 dX6_partName_151 ?_
    refine zretW hf ?_
    exact zr_lret C0 rfl dX6_partName_152 rfl
  have hf := zif_f c23 hf
  rcases Decidable.em (p0 = 5) with c30 | c30
  · have hf := zif_t c30 hf
    refine zr_tableIn C0 (v := 5) (tgt := 153) dX6_partName_1 c30 (by decide) (by decide) rfl (by decide) ?_
    refine zr_bipush C0 (v := 100) dX6_partName_153 (by decide) ?_
    refine zr_bipush C0 (v := 117) dX6_partName_155 (by decide) ?_
    refine zr_bipush C0 (v := 101) dX6_partName_157 (by decide) ?_
    refine zr_iconst C0 (v := 0) dX6_partName_159 (by decide) ?_
    refine zr_iconst C0 (v := 0) dX6_partName_160 (by decide) ?_
    obtain ⟨x33, h31, e32, hf⟩ := zbind2 hf
    refine zr_callS_r C0 cv_X6_278 (m_X6_pack C0.2.2.2.2.2.2.1 e32) (by decide) (by decide) rfl rfl (Nat.le_of_ble_eq_true rfl) dX6_partName_161 rfl ?_
    refine zretW hf ?_
    exact zr_lret C0 rfl dX6_partName_164 rfl
  have hf := zif_f c30 hf
  refine zr_tableOut C0 (tgt := 165) dX6_partName_1 ?_ (by decide) ?_
  · have n0 := lv_neT (a := 0) c1 rfl; have n1 := lv_neT (a := 1) c8 rfl; have n2 := lv_neT (a := 2) c12 rfl; have n3 := lv_neT (a := 3) c19 rfl; have n4 := lv_neT (a := 4) c23 rfl; have n5 := lv_neT (a := 5) c30 rfl; omega
  refine zr_bipush C0 (v := 98) dX6_partName_165 (by decide) ?_
  refine zr_bipush C0 (v := 97) dX6_partName_167 (by decide) ?_
  refine zr_bipush C0 (v := 108) dX6_partName_169 (by decide) ?_
  refine zr_bipush C0 (v := 97) dX6_partName_171 (by decide) ?_
  refine zr_bipush C0 (v := 110) dX6_partName_173 (by decide) ?_
  obtain ⟨x36, h34, e35, hf⟩ := zbind2 hf
  refine zr_callS_r C0 cv_X6_278 (m_X6_pack C0.2.2.2.2.2.2.1 e35) (by decide) (by decide) rfl rfl (Nat.le_of_ble_eq_true rfl) dX6_partName_175 rfl ?_
  refine zr_ldc2 C0 (v := 1024) q3050 dX6_partName_178 ?_
  refine zr_lmul C0 dX6_partName_181 ?_
  refine zr_bipush C0 (v := 99) dX6_partName_182 (by decide) ?_
  refine zr_bipush C0 (v := 101) dX6_partName_184 (by decide) ?_
  refine zr_iconst C0 (v := 0) dX6_partName_186 (by decide) ?_
  refine zr_iconst C0 (v := 0) dX6_partName_187 (by decide) ?_
  refine zr_iconst C0 (v := 0) dX6_partName_188 (by decide) ?_
  obtain ⟨x39, h37, e38, hf⟩ := zbind2 hf
  refine zr_callS_r C0 cv_X6_278 (m_X6_pack C0.2.2.2.2.2.2.1 e38) (by decide) (by decide) rfl rfl (Nat.le_of_ble_eq_true rfl) dX6_partName_189 rfl ?_
  refine zr_ladd C0 dX6_partName_192 ?_
  refine zretW hf ?_
  exact zr_lret C0 rfl dX6_partName_193 rfl
def f_X6_partName (E : zE) (p0 : Int32) (h : zH) : Option (Int64 × zH) := f_X6_partName_b0 E p0 h
theorem m_X6_partName {l : Launch} (hst : l.stackTraces = false) {D : zD} {B0 : Nat} {E : zE} {p0 : Int32} {h h' : zH} {r : Int64} (hf : f_X6_partName E p0 h = some (r, h')) : zMet l yX6_partName (ws_ yX6_partName cX6_partName 1 (Option.some Jvm.ClassFile.FieldType.long)) 2 86 D B0 E [.int p0] h (zoL r) h' := by
  unfold f_X6_partName at hf
  refine zMet_of hst (by decide +kernel) rfl rfl (Nat.le_of_ble_eq_true rfl) (fun p e R s m below meth c C0 hno => ?_)
  show zW _ _ _ _ _ _ _ _ _ _ _ _ _ _ _ _ [(0, .int p0)] []
  exact w_X6_partName_b0 C0 hf
def f_X6_appendWord_b34 (E : zE) (k3 : Nat → Int64 → Int32 → zH → Option (Unit × zH)) (p0 : Nat) (p1 : Int64) (p3 : Int32) (h : zH) : Option (Unit × zH) :=
  k3 p0 p1 (p3 + (-5)) h
theorem w_X6_appendWord_b34 (C0 : zCx p l e R s m args below meth c D B0 4 "FranchiseLedgerModel" cX6_appendWord E 2 81 (Option.none : Option Jvm.ClassFile.FieldType) "appendWord") {r : Unit} {h' : zH} {k3 : Nat → Int64 → Int32 → zH → Option (Unit × zH)} (hk3 : ∀ (p0 : Nat) (p1 : Int64) (p3 : Int32) (h : zH), k3 p0 p1 p3 h = some (r, h') → zW p l e R s m args below meth c D B0 4 (zEnd D B0 R below args s (zoV r) h') h 3 [(0, .ref p0), (1, .long p1), (3, .int p3)] []) {p0 : Nat} {p1 : Int64} {p3 : Int32} {h : zH} (hf : f_X6_appendWord_b34 E k3 p0 p1 p3 h = some (r, h')) : zW p l e R s m args below meth c D B0 4 (zEnd D B0 R below args s (zoV r) h') h 34 [(0, .ref p0), (1, .long p1), (3, .int p3)] [] := by
  unfold f_X6_appendWord_b34 at hf
  refine zr_iinc (lv' := [(3, .int (p3 + (-5))), (0, .ref p0), (1, .long p1)]) C0 dX6_appendWord_34 2 rfl rfl (by decide) (by first | rfl | simp [zst1, zst2, zcat_rf]) ?_
  refine zr_goto C0 (tgt := 3) dX6_appendWord_37 (by decide) ?_
  refine zr_sub [1, 2, 0] rfl ?_
  exact hk3 _ _ _ _ hf
def f_X6_appendWord_l3 (E : zE) : Nat → Nat → Int64 → Int32 → zH → Option (Unit × zH)
  | 0, _, _, _, _ => none
  | n + 1, p0, p1, p3, h =>
    if p3 < 0 then (
      (cko h p0 1).bind fun _ =>
      bnd2 (f_X6_append E p0 (32 : Int32) h) fun x5 h3 =>
      some ((), h3)
    ) else (
      if ((p1 >>> (p3.toInt64 &&& 63)) &&& (31 : Int64)) ≤ (0 : Int64) then (
        f_X6_appendWord_b34 E (f_X6_appendWord_l3 E n) p0 p1 p3 h
      ) else (
        (cko h p0 1).bind fun _ =>
        bnd2 (f_X6_append E p0 ((96 : Int32) + (((p1 >>> (p3.toInt64 &&& 63)) &&& (31 : Int64)).toInt32)) h) fun x10 h8 =>
        f_X6_appendWord_b34 E (f_X6_appendWord_l3 E n) p0 p1 p3 h8
      )
    )
theorem w_X6_appendWord_l3 (C0 : zCx p l e R s m args below meth c D B0 4 "FranchiseLedgerModel" cX6_appendWord E 2 81 (Option.none : Option Jvm.ClassFile.FieldType) "appendWord") {r : Unit} {h' : zH} : ∀ (n : Nat) (p0 : Nat) (p1 : Int64) (p3 : Int32) (h : zH), f_X6_appendWord_l3 E n p0 p1 p3 h = some (r, h') → zW p l e R s m args below meth c D B0 4 (zEnd D B0 R below args s (zoV r) h') h 3 [(0, .ref p0), (1, .long p1), (3, .int p3)] [] := by
  intro n
  induction n with
  | zero =>
    intro p0 p1 p3 h hf
    unfold f_X6_appendWord_l3 at hf
    cases hf
  | succ n ih =>
    intro p0 p1 p3 h hf
    unfold f_X6_appendWord_l3 at hf
    refine zr_iload_n C0 dX6_appendWord_3 rfl 2 rfl ?_
    refine zr_if_lt C0 (tgt := 40) dX6_appendWord_4 (by decide) (fun c1 => ?_) (fun c1 => ?_)
    · have hf := zif_t c1 hf
      refine zr_aload_n C0 dX6_appendWord_40 rfl 0 rfl ?_
      refine zr_bipush C0 (v := 32) dX6_appendWord_41 (by decide) ?_
      obtain ⟨_, e2, hf⟩ := zbind hf
      obtain ⟨x5, h3, e4, hf⟩ := zbind2 hf
      refine zr_callV_r C0 cv_X6_271_X6 rfl (zcko e2) (m_X6_append C0.2.2.2.2.2.2.1 e4) (by decide) (by decide) rfl rfl (Nat.le_of_ble_eq_true rfl) dX6_appendWord_43 rfl ?_
      refine zretW hf ?_
      exact zr_vret C0 rfl dX6_appendWord_46 rfl
    · have hf := zif_f c1 hf
      refine zr_lload_n C0 dX6_appendWord_7 rfl 1 rfl ?_
      refine zr_iload_n C0 dX6_appendWord_8 rfl 2 rfl ?_
      refine zr_lshr C0 dX6_appendWord_9 ?_
      refine zr_ldc2 C0 (v := 31) q3056 dX6_appendWord_10 ?_
      refine zr_land C0 dX6_appendWord_13 ?_
      refine zr_lconst C0 (v := 0) dX6_appendWord_14 (by decide) ?_
      refine zr_lcmp C0 dX6_appendWord_15 ?_
      refine zr_if_le C0 (tgt := 34) dX6_appendWord_16 (by decide) (fun c6 => ?_) (fun c6 => ?_)
      · have hf := zif_t (zl_le.mp c6) hf
        exact w_X6_appendWord_b34 C0 ih hf
      · have hf := zif_f (zl_len.mp c6) hf
        refine zr_aload_n C0 dX6_appendWord_19 rfl 0 rfl ?_
        refine zr_bipush C0 (v := 96) dX6_appendWord_20 (by decide) ?_
        refine zr_lload_n C0 dX6_appendWord_22 rfl 1 rfl ?_
        refine zr_iload_n C0 dX6_appendWord_23 rfl 2 rfl ?_
        refine zr_lshr C0 dX6_appendWord_24 ?_
        refine zr_ldc2 C0 (v := 31) q3056 dX6_appendWord_25 ?_
        refine zr_land C0 dX6_appendWord_28 ?_
        refine zr_l2i C0 dX6_appendWord_29 ?_
        refine zr_iadd C0 dX6_appendWord_30 ?_
        obtain ⟨_, e7, hf⟩ := zbind hf
        obtain ⟨x10, h8, e9, hf⟩ := zbind2 hf
        refine zr_callV_r C0 cv_X6_271_X6 rfl (zcko e7) (m_X6_append C0.2.2.2.2.2.2.1 e9) (by decide) (by decide) rfl rfl (Nat.le_of_ble_eq_true rfl) dX6_appendWord_31 rfl ?_
        exact w_X6_appendWord_b34 C0 ih hf
def f_X6_appendWord_b0 (E : zE) (p0 : Nat) (p1 : Int64) (h : zH) : Option (Unit × zH) :=
  f_X6_appendWord_l3 E E.1 p0 p1 (45 : Int32) h
theorem w_X6_appendWord_b0 (C0 : zCx p l e R s m args below meth c D B0 4 "FranchiseLedgerModel" cX6_appendWord E 2 81 (Option.none : Option Jvm.ClassFile.FieldType) "appendWord") {r : Unit} {h' : zH} {p0 : Nat} {p1 : Int64} {h : zH} (hf : f_X6_appendWord_b0 E p0 p1 h = some (r, h')) : zW p l e R s m args below meth c D B0 4 (zEnd D B0 R below args s (zoV r) h') h 0 [(0, .ref p0), (1, .long p1)] [] := by
  unfold f_X6_appendWord_b0 at hf
  refine zr_bipush C0 (v := 45) dX6_appendWord_0 (by decide) ?_
  refine zr_istore_n (i := 3) (lv' := [(3, .int (45 : Int32)), (0, .ref p0), (1, .long p1)]) C0 dX6_appendWord_2 rfl (by decide) (by first | rfl | simp [zst1, zst2, zcat_rf]) ?_
  refine zr_sub [1, 2, 0] rfl ?_
  exact w_X6_appendWord_l3 C0 _ _ _ _ _ hf
def f_X6_appendWord (E : zE) (p0 : Nat) (p1 : Int64) (h : zH) : Option (Unit × zH) := f_X6_appendWord_b0 E p0 p1 h
theorem m_X6_appendWord {l : Launch} (hst : l.stackTraces = false) {D : zD} {B0 : Nat} {E : zE} {p0 : Nat} {p1 : Int64} {h h' : zH} {r : Unit} (hf : f_X6_appendWord E p0 p1 h = some (r, h')) : zMet l yX6_appendWord (ws_ yX6_appendWord cX6_appendWord 4 (Option.none : Option Jvm.ClassFile.FieldType)) 2 81 D B0 E [.ref p0, .long p1] h (zoV r) h' := by
  unfold f_X6_appendWord at hf
  refine zMet_of hst (by decide +kernel) rfl rfl (Nat.le_of_ble_eq_true rfl) (fun p e R s m below meth c C0 hno => ?_)
  show zW _ _ _ _ _ _ _ _ _ _ _ _ _ _ _ _ [(0, .ref p0), (1, .long p1)] []
  exact w_X6_appendWord_b0 C0 hf
def f_X6_appendAmount_b90 (E : zE) (k52 : Nat → Int64 → Int64 → zH → Option (Unit × zH)) (p0 : Nat) (p3 : Int64) (p5 : Int64) (h : zH) : Option (Unit × zH) :=
  k52 p0 p3 (p5 / (10 : Int64)) h
theorem w_X6_appendAmount_b90 (C0 : zCx p l e R s m args below meth c D B0 7 "FranchiseLedgerModel" cX6_appendAmount E 2 81 (Option.none : Option Jvm.ClassFile.FieldType) "appendAmount") {r : Unit} {h' : zH} {k52 : Nat → Int64 → Int64 → zH → Option (Unit × zH)} (hk52 : ∀ (p0 : Nat) (p3 : Int64) (p5 : Int64) (h : zH), k52 p0 p3 p5 h = some (r, h') → zW p l e R s m args below meth c D B0 7 (zEnd D B0 R below args s (zoV r) h') h 52 [(0, .ref p0), (3, .long p3), (5, .long p5)] []) {p0 : Nat} {p3 : Int64} {p5 : Int64} {h : zH} (hf : f_X6_appendAmount_b90 E k52 p0 p3 p5 h = some (r, h')) : zW p l e R s m args below meth c D B0 7 (zEnd D B0 R below args s (zoV r) h') h 90 [(0, .ref p0), (3, .long p3), (5, .long p5)] [] := by
  unfold f_X6_appendAmount_b90 at hf
  refine zr_lload C0 dX6_appendAmount_90 2 rfl ?_
  refine zr_ldc2 C0 (v := 10) q3062 dX6_appendAmount_92 ?_
  refine zr_ldiv C0 dX6_appendAmount_95 (by decide) ?_
  refine zr_lstore (i := 5) (lv' := [(5, .long (p5 / (10 : Int64))), (0, .ref p0), (3, .long p3)]) C0 dX6_appendAmount_96 (by decide) (by first | rfl | simp [zst1, zst2, zcat_rf]) ?_
  refine zr_goto C0 (tgt := 52) dX6_appendAmount_98 (by decide) ?_
  refine zr_sub [1, 2, 0] rfl ?_
  exact hk52 _ _ _ _ hf
def f_X6_appendAmount_l52 (E : zE) : Nat → Nat → Int64 → Int64 → zH → Option (Unit × zH)
  | 0, _, _, _, _ => none
  | n + 1, p0, p3, p5, h =>
    if p5 ≤ (0 : Int64) then (
      some ((), h)
    ) else (
      (zn0L p5).bind fun _ =>
      (cko h p0 1).bind fun _ =>
      bnd2 (f_X6_append E p0 ((48 : Int32) + (((p3 / p5) - (p3 / p5) / (10 : Int64) * (10 : Int64)).toInt32)) h) fun x6 h4 =>
      if p5 = (100 : Int64) then (
        (cko h4 p0 1).bind fun _ =>
        bnd2 (f_X6_append E p0 (46 : Int32) h4) fun x11 h9 =>
        f_X6_appendAmount_b90 E (f_X6_appendAmount_l52 E n) p0 p3 p5 h9
      ) else (
        f_X6_appendAmount_b90 E (f_X6_appendAmount_l52 E n) p0 p3 p5 h4
      )
    )
theorem w_X6_appendAmount_l52 (C0 : zCx p l e R s m args below meth c D B0 7 "FranchiseLedgerModel" cX6_appendAmount E 2 81 (Option.none : Option Jvm.ClassFile.FieldType) "appendAmount") {r : Unit} {h' : zH} : ∀ (n : Nat) (p0 : Nat) (p3 : Int64) (p5 : Int64) (h : zH), f_X6_appendAmount_l52 E n p0 p3 p5 h = some (r, h') → zW p l e R s m args below meth c D B0 7 (zEnd D B0 R below args s (zoV r) h') h 52 [(0, .ref p0), (3, .long p3), (5, .long p5)] [] := by
  intro n
  induction n with
  | zero =>
    intro p0 p3 p5 h hf
    unfold f_X6_appendAmount_l52 at hf
    cases hf
  | succ n ih =>
    intro p0 p3 p5 h hf
    unfold f_X6_appendAmount_l52 at hf
    refine zr_lload C0 dX6_appendAmount_52 2 rfl ?_
    refine zr_lconst C0 (v := 0) dX6_appendAmount_54 (by decide) ?_
    refine zr_lcmp C0 dX6_appendAmount_55 ?_
    refine zr_if_le C0 (tgt := 101) dX6_appendAmount_56 (by decide) (fun c1 => ?_) (fun c1 => ?_)
    · have hf := zif_t (zl_le.mp c1) hf
      refine zretW hf ?_
      exact zr_vret C0 rfl dX6_appendAmount_101 rfl
    · have hf := zif_f (zl_len.mp c1) hf
      refine zr_aload_n C0 dX6_appendAmount_59 rfl 0 rfl ?_
      refine zr_bipush C0 (v := 48) dX6_appendAmount_60 (by decide) ?_
      refine zr_lload_n C0 dX6_appendAmount_62 rfl 1 rfl ?_
      refine zr_lload C0 dX6_appendAmount_63 2 rfl ?_
      obtain ⟨_, e2, hf⟩ := zbind hf
      refine zr_ldiv C0 dX6_appendAmount_65 (zn0L_ne e2) ?_
      refine zr_ldc2 C0 (v := 10) q3062 dX6_appendAmount_66 ?_
      refine zr_lrem C0 dX6_appendAmount_69 (by decide) ?_
      refine zr_l2i C0 dX6_appendAmount_70 ?_
      refine zr_iadd C0 dX6_appendAmount_71 ?_
      obtain ⟨_, e3, hf⟩ := zbind hf
      obtain ⟨x6, h4, e5, hf⟩ := zbind2 hf
      refine zr_callV_r C0 cv_X6_271_X6 rfl (zcko e3) (m_X6_append C0.2.2.2.2.2.2.1 e5) (by decide) (by decide) rfl rfl (Nat.le_of_ble_eq_true rfl) dX6_appendAmount_72 rfl ?_
      refine zr_lload C0 dX6_appendAmount_75 2 rfl ?_
      refine zr_ldc2 C0 (v := 100) q2752 dX6_appendAmount_77 ?_
      refine zr_lcmp C0 dX6_appendAmount_80 ?_
      refine zr_if_ne C0 (tgt := 90) dX6_appendAmount_81 (by decide) (fun c7 => ?_) (fun c7 => ?_)
      · have hf := zif_f (zl_ne.mp c7) hf
        exact w_X6_appendAmount_b90 C0 ih hf
      · have hf := zif_t (zl_nen.mp c7) hf
        refine zr_aload_n C0 dX6_appendAmount_84 rfl 0 rfl ?_
        refine zr_bipush C0 (v := 46) dX6_appendAmount_85 (by decide) ?_
        obtain ⟨_, e8, hf⟩ := zbind hf
        obtain ⟨x11, h9, e10, hf⟩ := zbind2 hf
        refine zr_callV_r C0 cv_X6_271_X6 rfl (zcko e8) (m_X6_append C0.2.2.2.2.2.2.1 e10) (by decide) (by decide) rfl rfl (Nat.le_of_ble_eq_true rfl) dX6_appendAmount_87 rfl ?_
        exact w_X6_appendAmount_b90 C0 ih hf
def f_X6_appendAmount_l30 (E : zE) : Nat → Nat → Int64 → Int64 → zH → Option (Unit × zH)
  | 0, _, _, _, _ => none
  | n + 1, p0, p3, p5, h =>
    (zn0L p5).bind fun _ =>
    if (p3 / p5) ≤ (9 : Int64) then (
      f_X6_appendAmount_l52 E E.1 p0 p3 p5 h
    ) else (
      f_X6_appendAmount_l30 E n p0 p3 (p5 * (10 : Int64)) h
    )
theorem w_X6_appendAmount_l30 (C0 : zCx p l e R s m args below meth c D B0 7 "FranchiseLedgerModel" cX6_appendAmount E 2 81 (Option.none : Option Jvm.ClassFile.FieldType) "appendAmount") {r : Unit} {h' : zH} : ∀ (n : Nat) (p0 : Nat) (p3 : Int64) (p5 : Int64) (h : zH), f_X6_appendAmount_l30 E n p0 p3 p5 h = some (r, h') → zW p l e R s m args below meth c D B0 7 (zEnd D B0 R below args s (zoV r) h') h 30 [(0, .ref p0), (3, .long p3), (5, .long p5)] [] := by
  intro n
  induction n with
  | zero =>
    intro p0 p3 p5 h hf
    unfold f_X6_appendAmount_l30 at hf
    cases hf
  | succ n ih =>
    intro p0 p3 p5 h hf
    unfold f_X6_appendAmount_l30 at hf
    refine zr_lload_n C0 dX6_appendAmount_30 rfl 1 rfl ?_
    refine zr_lload C0 dX6_appendAmount_31 2 rfl ?_
    obtain ⟨_, e1, hf⟩ := zbind hf
    refine zr_ldiv C0 dX6_appendAmount_33 (zn0L_ne e1) ?_
    refine zr_ldc2 C0 (v := 9) q3061 dX6_appendAmount_34 ?_
    refine zr_lcmp C0 dX6_appendAmount_37 ?_
    refine zr_if_le C0 (tgt := 52) dX6_appendAmount_38 (by decide) (fun c2 => ?_) (fun c2 => ?_)
    · have hf := zif_t (zl_le.mp c2) hf
      exact w_X6_appendAmount_l52 C0 _ _ _ _ _ hf
    · have hf := zif_f (zl_len.mp c2) hf
      refine zr_lload C0 dX6_appendAmount_41 2 rfl ?_
      refine zr_ldc2 C0 (v := 10) q3062 dX6_appendAmount_43 ?_
      refine zr_lmul C0 dX6_appendAmount_46 ?_
      refine zr_lstore (i := 5) (lv' := [(5, .long (p5 * (10 : Int64))), (0, .ref p0), (3, .long p3)]) C0 dX6_appendAmount_47 (by decide) (by first | rfl | simp [zst1, zst2, zcat_rf]) ?_
      refine zr_goto C0 (tgt := 30) dX6_appendAmount_49 (by decide) ?_
      refine zr_sub [1, 2, 0] rfl ?_
      exact ih _ _ _ _ hf
def f_X6_appendAmount_b24 (E : zE) (p0 : Nat) (s0 : Int64) (h : zH) : Option (Unit × zH) :=
  f_X6_appendAmount_l30 E E.1 p0 s0 (100 : Int64) h
theorem w_X6_appendAmount_b24 (C0 : zCx p l e R s m args below meth c D B0 7 "FranchiseLedgerModel" cX6_appendAmount E 2 81 (Option.none : Option Jvm.ClassFile.FieldType) "appendAmount") {r : Unit} {h' : zH} {p0 : Nat} {s0 : Int64} {h : zH} (hf : f_X6_appendAmount_b24 E p0 s0 h = some (r, h')) : zW p l e R s m args below meth c D B0 7 (zEnd D B0 R below args s (zoV r) h') h 24 [(0, .ref p0)] [.long s0] := by
  unfold f_X6_appendAmount_b24 at hf
  refine zr_lstore_n (i := 3) (lv' := [(3, .long s0), (0, .ref p0)]) C0 dX6_appendAmount_24 rfl (by decide) (by first | rfl | simp [zst1, zst2, zcat_rf]) ?_
  refine zr_ldc2 C0 (v := 100) q2752 dX6_appendAmount_25 ?_
  refine zr_lstore (i := 5) (lv' := [(5, .long (100 : Int64)), (3, .long s0), (0, .ref p0)]) C0 dX6_appendAmount_28 (by decide) (by first | rfl | simp [zst1, zst2, zcat_rf]) ?_
  refine zr_sub [2, 1, 0] rfl ?_
  exact w_X6_appendAmount_l30 C0 _ _ _ _ _ hf
def f_X6_appendAmount_b12 (E : zE) (p0 : Nat) (p1 : Int64) (h : zH) : Option (Unit × zH) :=
  if (0 : Int64) ≤ p1 then (
    f_X6_appendAmount_b24 E p0 p1 h
  ) else (
    f_X6_appendAmount_b24 E p0 (-p1) h
  )
theorem w_X6_appendAmount_b12 (C0 : zCx p l e R s m args below meth c D B0 7 "FranchiseLedgerModel" cX6_appendAmount E 2 81 (Option.none : Option Jvm.ClassFile.FieldType) "appendAmount") {r : Unit} {h' : zH} {p0 : Nat} {p1 : Int64} {h : zH} (hf : f_X6_appendAmount_b12 E p0 p1 h = some (r, h')) : zW p l e R s m args below meth c D B0 7 (zEnd D B0 R below args s (zoV r) h') h 12 [(0, .ref p0), (1, .long p1)] [] := by
  unfold f_X6_appendAmount_b12 at hf
  refine zr_lload_n C0 dX6_appendAmount_12 rfl 1 rfl ?_
  refine zr_lconst C0 (v := 0) dX6_appendAmount_13 (by decide) ?_
  refine zr_lcmp C0 dX6_appendAmount_14 ?_
  refine zr_if_ge C0 (tgt := 23) dX6_appendAmount_15 (by decide) (fun c1 => ?_) (fun c1 => ?_)
  · have hf := zif_t (zl_ge.mp c1) hf
    refine zr_lload_n C0 dX6_appendAmount_23 rfl 1 rfl ?_
    refine zr_sub [0] rfl ?_
    exact w_X6_appendAmount_b24 C0 hf
  · have hf := zif_f (zl_gen.mp c1) hf
    refine zr_lload_n C0 dX6_appendAmount_18 rfl 1 rfl ?_
    refine zr_lneg C0 dX6_appendAmount_19 ?_
    refine zr_goto C0 (tgt := 24) dX6_appendAmount_20 (by decide) ?_
    refine zr_sub [0] rfl ?_
    exact w_X6_appendAmount_b24 C0 hf
def f_X6_appendAmount_b0 (E : zE) (p0 : Nat) (p1 : Int64) (h : zH) : Option (Unit × zH) :=
  if (0 : Int64) ≤ p1 then (
    f_X6_appendAmount_b12 E p0 p1 h
  ) else (
    (cko h p0 1).bind fun _ =>
    bnd2 (f_X6_append E p0 (45 : Int32) h) fun x5 h3 =>
    f_X6_appendAmount_b12 E p0 p1 h3
  )
theorem w_X6_appendAmount_b0 (C0 : zCx p l e R s m args below meth c D B0 7 "FranchiseLedgerModel" cX6_appendAmount E 2 81 (Option.none : Option Jvm.ClassFile.FieldType) "appendAmount") {r : Unit} {h' : zH} {p0 : Nat} {p1 : Int64} {h : zH} (hf : f_X6_appendAmount_b0 E p0 p1 h = some (r, h')) : zW p l e R s m args below meth c D B0 7 (zEnd D B0 R below args s (zoV r) h') h 0 [(0, .ref p0), (1, .long p1)] [] := by
  unfold f_X6_appendAmount_b0 at hf
  refine zr_lload_n C0 dX6_appendAmount_0 rfl 1 rfl ?_
  refine zr_lconst C0 (v := 0) dX6_appendAmount_1 (by decide) ?_
  refine zr_lcmp C0 dX6_appendAmount_2 ?_
  refine zr_if_ge C0 (tgt := 12) dX6_appendAmount_3 (by decide) (fun c1 => ?_) (fun c1 => ?_)
  · have hf := zif_t (zl_ge.mp c1) hf
    exact w_X6_appendAmount_b12 C0 hf
  · have hf := zif_f (zl_gen.mp c1) hf
    refine zr_aload_n C0 dX6_appendAmount_6 rfl 0 rfl ?_
    refine zr_bipush C0 (v := 45) dX6_appendAmount_7 (by decide) ?_
    obtain ⟨_, e2, hf⟩ := zbind hf
    obtain ⟨x5, h3, e4, hf⟩ := zbind2 hf
    refine zr_callV_r C0 cv_X6_271_X6 rfl (zcko e2) (m_X6_append C0.2.2.2.2.2.2.1 e4) (by decide) (by decide) rfl rfl (Nat.le_of_ble_eq_true rfl) dX6_appendAmount_9 rfl ?_
    exact w_X6_appendAmount_b12 C0 hf
def f_X6_appendAmount (E : zE) (p0 : Nat) (p1 : Int64) (h : zH) : Option (Unit × zH) := f_X6_appendAmount_b0 E p0 p1 h
theorem m_X6_appendAmount {l : Launch} (hst : l.stackTraces = false) {D : zD} {B0 : Nat} {E : zE} {p0 : Nat} {p1 : Int64} {h h' : zH} {r : Unit} (hf : f_X6_appendAmount E p0 p1 h = some (r, h')) : zMet l yX6_appendAmount (ws_ yX6_appendAmount cX6_appendAmount 7 (Option.none : Option Jvm.ClassFile.FieldType)) 2 81 D B0 E [.ref p0, .long p1] h (zoV r) h' := by
  unfold f_X6_appendAmount at hf
  refine zMet_of hst (by decide +kernel) rfl rfl (Nat.le_of_ble_eq_true rfl) (fun p e R s m below meth c C0 hno => ?_)
  show zW _ _ _ _ _ _ _ _ _ _ _ _ _ _ _ _ [(0, .ref p0), (1, .long p1)] []
  exact w_X6_appendAmount_b0 C0 hf
def f_X6_formatInvoice_b47 (E : zE) (h : zH) : Option (Int32 × zH) :=
  some ((0 : Int32), h)
theorem w_X6_formatInvoice_b47 (C0 : zCx p l e R s m args below meth c D B0 4 "FranchiseLedgerModel" cX6_formatInvoice E 3 107 (Option.some Jvm.ClassFile.FieldType.int) "formatInvoice") {r : Int32} {h' : zH} {h : zH} (hf : f_X6_formatInvoice_b47 E  h = some (r, h')) : zW p l e R s m args below meth c D B0 4 (zEnd D B0 R below args s (zoI r) h') h 47 [] [] := by
  unfold f_X6_formatInvoice_b47 at hf
  refine zr_iconst C0 (v := 0) dX6_formatInvoice_47 (by decide) ?_
  refine zretW hf ?_
  exact zr_iret C0 (ty := .int) rfl rfl dX6_formatInvoice_48 rfl
def f_X6_formatInvoice_b72 (E : zE) (k56 : Nat → Int32 → Int32 → Int32 → zH → Option (Int32 × zH)) (p0 : Nat) (p1 : Int32) (p2 : Int32) (p3 : Int32) (h : zH) : Option (Int32 × zH) :=
  bnd2 (f_X6_partName E p3 h) fun x3 h1 =>
  (cko h1 p0 1).bind fun _ =>
  bnd2 (f_X6_appendWord E p0 x3 h1) fun x7 h5 =>
  (gR h5 p0 1 0).bind fun x8 =>
  (cko h5 p0 1).bind fun _ =>
  bnd2 (f_X6_invoiceRow E p0 p1 p2 h5) fun x13 h11 =>
  (dL h11 x8 (x13 + p3)).bind fun x14 =>
  (cko h11 p0 1).bind fun _ =>
  bnd2 (f_X6_appendAmount E p0 x14 h11) fun x19 h17 =>
  k56 p0 p1 p2 (p3 + 1) h17
theorem w_X6_formatInvoice_b72 (C0 : zCx p l e R s m args below meth c D B0 4 "FranchiseLedgerModel" cX6_formatInvoice E 3 107 (Option.some Jvm.ClassFile.FieldType.int) "formatInvoice") {r : Int32} {h' : zH} {k56 : Nat → Int32 → Int32 → Int32 → zH → Option (Int32 × zH)} (hk56 : ∀ (p0 : Nat) (p1 : Int32) (p2 : Int32) (p3 : Int32) (h : zH), k56 p0 p1 p2 p3 h = some (r, h') → zW p l e R s m args below meth c D B0 4 (zEnd D B0 R below args s (zoI r) h') h 56 [(0, .ref p0), (1, .int p1), (2, .int p2), (3, .int p3)] []) {p0 : Nat} {p1 : Int32} {p2 : Int32} {p3 : Int32} {h : zH} (hf : f_X6_formatInvoice_b72 E k56 p0 p1 p2 p3 h = some (r, h')) : zW p l e R s m args below meth c D B0 4 (zEnd D B0 R below args s (zoI r) h') h 72 [(0, .ref p0), (1, .int p1), (2, .int p2), (3, .int p3)] [] := by
  unfold f_X6_formatInvoice_b72 at hf
  refine zr_aload_n C0 dX6_formatInvoice_72 rfl 0 rfl ?_
  refine zr_iload_n C0 dX6_formatInvoice_73 rfl 3 rfl ?_
  obtain ⟨x3, h1, e2, hf⟩ := zbind2 hf
  refine zr_callS_r C0 cv_X6_286 (m_X6_partName C0.2.2.2.2.2.2.1 e2) (by decide) (by decide) rfl rfl (Nat.le_of_ble_eq_true rfl) dX6_formatInvoice_74 rfl ?_
  obtain ⟨_, e4, hf⟩ := zbind hf
  obtain ⟨x7, h5, e6, hf⟩ := zbind2 hf
  refine zr_callV_r C0 cv_X6_289_X6 rfl (zcko e4) (m_X6_appendWord C0.2.2.2.2.2.2.1 e6) (by decide) (by decide) rfl rfl (Nat.le_of_ble_eq_true rfl) dX6_formatInvoice_77 rfl ?_
  refine zr_aload_n C0 dX6_formatInvoice_80 rfl 0 rfl ?_
  refine zr_aload_n C0 dX6_formatInvoice_81 rfl 0 rfl ?_
  obtain ⟨x8, e9, hf⟩ := zbind hf
  refine zr_get C0 fl_X6_9_X6 dX6_formatInvoice_82 (zgR e9) ?_
  refine zr_aload_n C0 dX6_formatInvoice_85 rfl 0 rfl ?_
  refine zr_iload_n C0 dX6_formatInvoice_86 rfl 1 rfl ?_
  refine zr_iload_n C0 dX6_formatInvoice_87 rfl 2 rfl ?_
  obtain ⟨_, e10, hf⟩ := zbind hf
  obtain ⟨x13, h11, e12, hf⟩ := zbind2 hf
  refine zr_callV_r C0 cv_X6_231_X6 rfl (zcko e10) (m_X6_invoiceRow C0.2.2.2.2.2.2.1 e12) (by decide) (by decide) rfl rfl (Nat.le_of_ble_eq_true rfl) dX6_formatInvoice_88 rfl ?_
  refine zr_iload_n C0 dX6_formatInvoice_91 rfl 3 rfl ?_
  refine zr_iadd C0 dX6_formatInvoice_92 ?_
  obtain ⟨x14, e15, hf⟩ := zbind hf
  refine zr_lald C0 dX6_formatInvoice_93 e15 ?_
  obtain ⟨_, e16, hf⟩ := zbind hf
  obtain ⟨x19, h17, e18, hf⟩ := zbind2 hf
  refine zr_callV_r C0 cv_X6_293_X6 rfl (zcko e16) (m_X6_appendAmount C0.2.2.2.2.2.2.1 e18) (by decide) (by decide) rfl rfl (Nat.le_of_ble_eq_true rfl) dX6_formatInvoice_94 rfl ?_
  refine zr_iinc (lv' := [(3, .int (p3 + 1)), (0, .ref p0), (1, .int p1), (2, .int p2)]) C0 dX6_formatInvoice_97 3 rfl rfl (by decide) (by first | rfl | simp [zst1, zst2, zcat_rf]) ?_
  refine zr_goto C0 (tgt := 56) dX6_formatInvoice_100 (by decide) ?_
  refine zr_sub [1, 2, 3, 0] rfl ?_
  exact hk56 _ _ _ _ _ hf
def f_X6_formatInvoice_l56 (E : zE) : Nat → Nat → Int32 → Int32 → Int32 → zH → Option (Int32 × zH)
  | 0, _, _, _, _, _ => none
  | n + 1, p0, p1, p2, p3, h =>
    if (7 : Int32) ≤ p3 then (
      (gI h p0 1 7).bind fun x2 =>
      some (x2, h)
    ) else (
      if p3 ≤ 0 then (
        f_X6_formatInvoice_b72 E (f_X6_formatInvoice_l56 E n) p0 p1 p2 p3 h
      ) else (
        (cko h p0 1).bind fun _ =>
        bnd2 (f_X6_append E p0 (32 : Int32) h) fun x8 h6 =>
        f_X6_formatInvoice_b72 E (f_X6_formatInvoice_l56 E n) p0 p1 p2 p3 h6
      )
    )
theorem w_X6_formatInvoice_l56 (C0 : zCx p l e R s m args below meth c D B0 4 "FranchiseLedgerModel" cX6_formatInvoice E 3 107 (Option.some Jvm.ClassFile.FieldType.int) "formatInvoice") {r : Int32} {h' : zH} : ∀ (n : Nat) (p0 : Nat) (p1 : Int32) (p2 : Int32) (p3 : Int32) (h : zH), f_X6_formatInvoice_l56 E n p0 p1 p2 p3 h = some (r, h') → zW p l e R s m args below meth c D B0 4 (zEnd D B0 R below args s (zoI r) h') h 56 [(0, .ref p0), (1, .int p1), (2, .int p2), (3, .int p3)] [] := by
  intro n
  induction n with
  | zero =>
    intro p0 p1 p2 p3 h hf
    unfold f_X6_formatInvoice_l56 at hf
    cases hf
  | succ n ih =>
    intro p0 p1 p2 p3 h hf
    unfold f_X6_formatInvoice_l56 at hf
    refine zr_iload_n C0 dX6_formatInvoice_56 rfl 3 rfl ?_
    refine zr_bipush C0 (v := 7) dX6_formatInvoice_57 (by decide) ?_
    refine zr_icmp_ge C0 (tgt := 103) dX6_formatInvoice_59 (by decide) (fun c1 => ?_) (fun c1 => ?_)
    · have hf := zif_t c1 hf
      refine zr_aload_n C0 dX6_formatInvoice_103 rfl 0 rfl ?_
      obtain ⟨x2, e3, hf⟩ := zbind hf
      refine zr_get C0 fl_X6_266_X6 dX6_formatInvoice_104 (zgI e3) ?_
      refine zretW hf ?_
      exact zr_iret C0 (ty := .int) rfl rfl dX6_formatInvoice_107 rfl
    · have hf := zif_f c1 hf
      refine zr_iload_n C0 dX6_formatInvoice_62 rfl 3 rfl ?_
      refine zr_if_le C0 (tgt := 72) dX6_formatInvoice_63 (by decide) (fun c4 => ?_) (fun c4 => ?_)
      · have hf := zif_t c4 hf
        exact w_X6_formatInvoice_b72 C0 ih hf
      · have hf := zif_f c4 hf
        refine zr_aload_n C0 dX6_formatInvoice_66 rfl 0 rfl ?_
        refine zr_bipush C0 (v := 32) dX6_formatInvoice_67 (by decide) ?_
        obtain ⟨_, e5, hf⟩ := zbind hf
        obtain ⟨x8, h6, e7, hf⟩ := zbind2 hf
        refine zr_callV_r C0 cv_X6_271_X6 rfl (zcko e5) (m_X6_append C0.2.2.2.2.2.2.1 e7) (by decide) (by decide) rfl rfl (Nat.le_of_ble_eq_true rfl) dX6_formatInvoice_69 rfl ?_
        exact w_X6_formatInvoice_b72 C0 ih hf
def f_X6_formatInvoice_b40 (E : zE) (p0 : Nat) (p1 : Int32) (p2 : Int32) (s0 : Nat) (s1 : Int32) (h : zH) : Option (Int32 × zH) :=
  (cko h s0 1).bind fun _ =>
  bnd2 (f_X6_throwsIf E s0 s1 (2 : Int32) h) fun x4 h2 =>
  if x4 = 0 then (
    (pF h2 p0 1 7 (.int (0 : Int32))).bind fun h6 =>
    f_X6_formatInvoice_l56 E E.1 p0 p1 p2 (0 : Int32) h6
  ) else (
    f_X6_formatInvoice_b47 E  h2
  )
theorem w_X6_formatInvoice_b40 (C0 : zCx p l e R s m args below meth c D B0 4 "FranchiseLedgerModel" cX6_formatInvoice E 3 107 (Option.some Jvm.ClassFile.FieldType.int) "formatInvoice") {r : Int32} {h' : zH} {p0 : Nat} {p1 : Int32} {p2 : Int32} {s0 : Nat} {s1 : Int32} {h : zH} (hf : f_X6_formatInvoice_b40 E p0 p1 p2 s0 s1 h = some (r, h')) : zW p l e R s m args below meth c D B0 4 (zEnd D B0 R below args s (zoI r) h') h 40 [(0, .ref p0), (1, .int p1), (2, .int p2)] [.int s1, .ref s0] := by
  unfold f_X6_formatInvoice_b40 at hf
  refine zr_iconst C0 (v := 2) dX6_formatInvoice_40 (by decide) ?_
  obtain ⟨_, e1, hf⟩ := zbind hf
  obtain ⟨x4, h2, e3, hf⟩ := zbind2 hf
  refine zr_callV_r C0 cv_X6_81_X6 rfl (zcko e1) (m_X6_throwsIf C0.2.2.2.2.2.2.1 e3) (by decide) (by decide) rfl rfl (Nat.le_of_ble_eq_true rfl) dX6_formatInvoice_41 rfl ?_
  refine zr_if_eq C0 (tgt := 49) dX6_formatInvoice_44 (by decide) (fun c5 => ?_) (fun c5 => ?_)
  · have hf := zif_t c5 hf
    refine zr_aload_n C0 dX6_formatInvoice_49 rfl 0 rfl ?_
    refine zr_iconst C0 (v := 0) dX6_formatInvoice_50 (by decide) ?_
    obtain ⟨h6, e7, hf⟩ := zbind hf
    refine zr_put C0 pl_X6_266_X6 dX6_formatInvoice_51 (fun h => by cases h) rfl rfl e7 ?_
    refine zr_iconst C0 (v := 0) dX6_formatInvoice_54 (by decide) ?_
    refine zr_istore_n (i := 3) (lv' := [(3, .int (0 : Int32)), (0, .ref p0), (1, .int p1), (2, .int p2)]) C0 dX6_formatInvoice_55 rfl (by decide) (by first | rfl | simp [zst1, zst2, zcat_rf]) ?_
    refine zr_sub [1, 2, 3, 0] rfl ?_
    exact w_X6_formatInvoice_l56 C0 _ _ _ _ _ _ hf
  · have hf := zif_f c5 hf
    refine zr_sub [] rfl ?_
    exact w_X6_formatInvoice_b47 C0 hf
def f_X6_formatInvoice_b19 (E : zE) (p0 : Nat) (p1 : Int32) (p2 : Int32) (s0 : Nat) (s1 : Int32) (h : zH) : Option (Int32 × zH) :=
  (cko h s0 1).bind fun _ =>
  bnd2 (f_X6_throwsIf E s0 s1 (1 : Int32) h) fun x4 h2 =>
  if x4 = 0 then (
    (cko h2 p0 1).bind fun _ =>
    bnd2 (f_X6_isClosed E p0 p2 h2) fun x9 h7 =>
    if x9 = 0 then (
      f_X6_formatInvoice_b40 E p0 p1 p2 p0 (1 : Int32) h7
    ) else (
      f_X6_formatInvoice_b40 E p0 p1 p2 p0 (0 : Int32) h7
    )
  ) else (
    f_X6_formatInvoice_b47 E  h2
  )
theorem w_X6_formatInvoice_b19 (C0 : zCx p l e R s m args below meth c D B0 4 "FranchiseLedgerModel" cX6_formatInvoice E 3 107 (Option.some Jvm.ClassFile.FieldType.int) "formatInvoice") {r : Int32} {h' : zH} {p0 : Nat} {p1 : Int32} {p2 : Int32} {s0 : Nat} {s1 : Int32} {h : zH} (hf : f_X6_formatInvoice_b19 E p0 p1 p2 s0 s1 h = some (r, h')) : zW p l e R s m args below meth c D B0 4 (zEnd D B0 R below args s (zoI r) h') h 19 [(0, .ref p0), (1, .int p1), (2, .int p2)] [.int s1, .ref s0] := by
  unfold f_X6_formatInvoice_b19 at hf
  refine zr_iconst C0 (v := 1) dX6_formatInvoice_19 (by decide) ?_
  obtain ⟨_, e1, hf⟩ := zbind hf
  obtain ⟨x4, h2, e3, hf⟩ := zbind2 hf
  refine zr_callV_r C0 cv_X6_81_X6 rfl (zcko e1) (m_X6_throwsIf C0.2.2.2.2.2.2.1 e3) (by decide) (by decide) rfl rfl (Nat.le_of_ble_eq_true rfl) dX6_formatInvoice_20 rfl ?_
  refine zr_if_ne C0 (tgt := 47) dX6_formatInvoice_23 (by decide) (fun c5 => ?_) (fun c5 => ?_)
  · have hf := zif_f c5 hf
    refine zr_sub [] rfl ?_
    exact w_X6_formatInvoice_b47 C0 hf
  · have hf := zif_t c5 hf
    refine zr_aload_n C0 dX6_formatInvoice_26 rfl 0 rfl ?_
    refine zr_aload_n C0 dX6_formatInvoice_27 rfl 0 rfl ?_
    refine zr_iload_n C0 dX6_formatInvoice_28 rfl 2 rfl ?_
    obtain ⟨_, e6, hf⟩ := zbind hf
    obtain ⟨x9, h7, e8, hf⟩ := zbind2 hf
    refine zr_callV_r C0 cv_X6_207_X6 rfl (zcko e6) (m_X6_isClosed C0.2.2.2.2.2.2.1 e8) (by decide) (by decide) rfl rfl (Nat.le_of_ble_eq_true rfl) dX6_formatInvoice_29 rfl ?_
    refine zr_if_ne C0 (tgt := 39) dX6_formatInvoice_32 (by decide) (fun c10 => ?_) (fun c10 => ?_)
    · have hf := zif_f c10 hf
      refine zr_iconst C0 (v := 0) dX6_formatInvoice_39 (by decide) ?_
      exact w_X6_formatInvoice_b40 C0 hf
    · have hf := zif_t c10 hf
      refine zr_iconst C0 (v := 1) dX6_formatInvoice_35 (by decide) ?_
      refine zr_goto C0 (tgt := 40) dX6_formatInvoice_36 (by decide) ?_
      exact w_X6_formatInvoice_b40 C0 hf
def f_X6_formatInvoice_b0 (E : zE) (p0 : Nat) (p1 : Int32) (p2 : Int32) (h : zH) : Option (Int32 × zH) :=
  (pF h p0 1 2 (.int (0 : Int32))).bind fun h1 =>
  (cko h1 p0 1).bind fun _ =>
  bnd2 (f_X6_isFranchisee E p0 p1 h1) fun x6 h4 =>
  if x6 = 0 then (
    f_X6_formatInvoice_b19 E p0 p1 p2 p0 (1 : Int32) h4
  ) else (
    f_X6_formatInvoice_b19 E p0 p1 p2 p0 (0 : Int32) h4
  )
theorem w_X6_formatInvoice_b0 (C0 : zCx p l e R s m args below meth c D B0 4 "FranchiseLedgerModel" cX6_formatInvoice E 3 107 (Option.some Jvm.ClassFile.FieldType.int) "formatInvoice") {r : Int32} {h' : zH} {p0 : Nat} {p1 : Int32} {p2 : Int32} {h : zH} (hf : f_X6_formatInvoice_b0 E p0 p1 p2 h = some (r, h')) : zW p l e R s m args below meth c D B0 4 (zEnd D B0 R below args s (zoI r) h') h 0 [(0, .ref p0), (1, .int p1), (2, .int p2)] [] := by
  unfold f_X6_formatInvoice_b0 at hf
  refine zr_aload_n C0 dX6_formatInvoice_0 rfl 0 rfl ?_
  refine zr_iconst C0 (v := 0) dX6_formatInvoice_1 (by decide) ?_
  obtain ⟨h1, e2, hf⟩ := zbind hf
  refine zr_put C0 pl_X6_50_X6 dX6_formatInvoice_2 (fun h => by cases h) rfl rfl e2 ?_
  refine zr_aload_n C0 dX6_formatInvoice_5 rfl 0 rfl ?_
  refine zr_aload_n C0 dX6_formatInvoice_6 rfl 0 rfl ?_
  refine zr_iload_n C0 dX6_formatInvoice_7 rfl 1 rfl ?_
  obtain ⟨_, e3, hf⟩ := zbind hf
  obtain ⟨x6, h4, e5, hf⟩ := zbind2 hf
  refine zr_callV_r C0 cv_X6_85_X6 rfl (zcko e3) (m_X6_isFranchisee C0.2.2.2.2.2.2.1 e5) (by decide) (by decide) rfl rfl (Nat.le_of_ble_eq_true rfl) dX6_formatInvoice_8 rfl ?_
  refine zr_if_ne C0 (tgt := 18) dX6_formatInvoice_11 (by decide) (fun c7 => ?_) (fun c7 => ?_)
  · have hf := zif_f c7 hf
    refine zr_iconst C0 (v := 0) dX6_formatInvoice_18 (by decide) ?_
    exact w_X6_formatInvoice_b19 C0 hf
  · have hf := zif_t c7 hf
    refine zr_iconst C0 (v := 1) dX6_formatInvoice_14 (by decide) ?_
    refine zr_goto C0 (tgt := 19) dX6_formatInvoice_15 (by decide) ?_
    exact w_X6_formatInvoice_b19 C0 hf
def f_X6_formatInvoice (E : zE) (p0 : Nat) (p1 : Int32) (p2 : Int32) (h : zH) : Option (Int32 × zH) := f_X6_formatInvoice_b0 E p0 p1 p2 h
theorem m_X6_formatInvoice {l : Launch} (hst : l.stackTraces = false) {D : zD} {B0 : Nat} {E : zE} {p0 : Nat} {p1 : Int32} {p2 : Int32} {h h' : zH} {r : Int32} (hf : f_X6_formatInvoice E p0 p1 p2 h = some (r, h')) : zMet l yX6_formatInvoice (ws_ yX6_formatInvoice cX6_formatInvoice 4 (Option.some Jvm.ClassFile.FieldType.int)) 3 107 D B0 E [.ref p0, .int p1, .int p2] h (zoI r) h' := by
  unfold f_X6_formatInvoice at hf
  refine zMet_of hst (by decide +kernel) rfl rfl (Nat.le_of_ble_eq_true rfl) (fun p e R s m below meth c C0 hno => ?_)
  show zW _ _ _ _ _ _ _ _ _ _ _ _ _ _ _ _ [(0, .ref p0), (1, .int p1), (2, .int p2)] []
  exact w_X6_formatInvoice_b0 C0 hf
def f_X6_formattedByte_b31 (E : zE) (s0 : Int32) (h : zH) : Option (Int32 × zH) :=
  some (s0, h)
theorem w_X6_formattedByte_b31 (C0 : zCx p l e R s m args below meth c D B0 2 "FranchiseLedgerModel" cX6_formattedByte E 2 85 (Option.some Jvm.ClassFile.FieldType.int) "formattedByte") {r : Int32} {h' : zH} {s0 : Int32} {h : zH} (hf : f_X6_formattedByte_b31 E s0 h = some (r, h')) : zW p l e R s m args below meth c D B0 2 (zEnd D B0 R below args s (zoI r) h') h 31 [] [.int s0] := by
  unfold f_X6_formattedByte_b31 at hf
  refine zretW hf ?_
  exact zr_iret C0 (ty := .int) rfl rfl dX6_formattedByte_31 rfl
def f_X6_formattedByte_b0 (E : zE) (p0 : Nat) (p1 : Int32) (h : zH) : Option (Int32 × zH) :=
  (pF h p0 1 2 (.int (0 : Int32))).bind fun h1 =>
  (gI h1 p0 1 7).bind fun x3 =>
  bnd2 (f_X6_inRange E (p1.toInt64) (0 : Int64) ((x3 - (1 : Int32)).toInt64) h1) fun x7 h5 =>
  if x7 = 0 then (
    f_X6_formattedByte_b31 E (-1 : Int32) h5
  ) else (
    (gR h5 p0 1 6).bind fun x9 =>
    (dI h5 x9 2 p1).bind fun x11 =>
    f_X6_formattedByte_b31 E x11 h5
  )
theorem w_X6_formattedByte_b0 (C0 : zCx p l e R s m args below meth c D B0 2 "FranchiseLedgerModel" cX6_formattedByte E 2 85 (Option.some Jvm.ClassFile.FieldType.int) "formattedByte") {r : Int32} {h' : zH} {p0 : Nat} {p1 : Int32} {h : zH} (hf : f_X6_formattedByte_b0 E p0 p1 h = some (r, h')) : zW p l e R s m args below meth c D B0 2 (zEnd D B0 R below args s (zoI r) h') h 0 [(0, .ref p0), (1, .int p1)] [] := by
  unfold f_X6_formattedByte_b0 at hf
  refine zr_aload_n C0 dX6_formattedByte_0 rfl 0 rfl ?_
  refine zr_iconst C0 (v := 0) dX6_formattedByte_1 (by decide) ?_
  obtain ⟨h1, e2, hf⟩ := zbind hf
  refine zr_put C0 pl_X6_50_X6 dX6_formattedByte_2 (fun h => by cases h) rfl rfl e2 ?_
  refine zr_iload_n C0 dX6_formattedByte_5 rfl 1 rfl ?_
  refine zr_i2l C0 dX6_formattedByte_6 ?_
  refine zr_lconst C0 (v := 0) dX6_formattedByte_7 (by decide) ?_
  refine zr_aload_n C0 dX6_formattedByte_8 rfl 0 rfl ?_
  obtain ⟨x3, e4, hf⟩ := zbind hf
  refine zr_get C0 fl_X6_266_X6 dX6_formattedByte_9 (zgI e4) ?_
  refine zr_iconst C0 (v := 1) dX6_formattedByte_12 (by decide) ?_
  refine zr_isub C0 dX6_formattedByte_13 ?_
  refine zr_i2l C0 dX6_formattedByte_14 ?_
  obtain ⟨x7, h5, e6, hf⟩ := zbind2 hf
  refine zr_callS_r C0 cv_X6_53 (m_X6_inRange C0.2.2.2.2.2.2.1 e6) (by decide) (by decide) rfl rfl (Nat.le_of_ble_eq_true rfl) dX6_formattedByte_15 rfl ?_
  refine zr_if_eq C0 (tgt := 30) dX6_formattedByte_18 (by decide) (fun c8 => ?_) (fun c8 => ?_)
  · have hf := zif_t c8 hf
    refine zr_iconst C0 (v := -1) dX6_formattedByte_30 (by decide) ?_
    refine zr_sub [] rfl ?_
    exact w_X6_formattedByte_b31 C0 hf
  · have hf := zif_f c8 hf
    refine zr_aload_n C0 dX6_formattedByte_21 rfl 0 rfl ?_
    obtain ⟨x9, e10, hf⟩ := zbind hf
    refine zr_get C0 fl_X6_26_X6 dX6_formattedByte_22 (zgR e10) ?_
    refine zr_iload_n C0 dX6_formattedByte_25 rfl 1 rfl ?_
    obtain ⟨x11, e12, hf⟩ := zbind hf
    refine zr_bald C0 dX6_formattedByte_26 e12 ?_
    refine zr_goto C0 (tgt := 31) dX6_formattedByte_27 (by decide) ?_
    refine zr_sub [] rfl ?_
    exact w_X6_formattedByte_b31 C0 hf
def f_X6_formattedByte (E : zE) (p0 : Nat) (p1 : Int32) (h : zH) : Option (Int32 × zH) := f_X6_formattedByte_b0 E p0 p1 h
theorem m_X6_formattedByte {l : Launch} (hst : l.stackTraces = false) {D : zD} {B0 : Nat} {E : zE} {p0 : Nat} {p1 : Int32} {h h' : zH} {r : Int32} (hf : f_X6_formattedByte E p0 p1 h = some (r, h')) : zMet l yX6_formattedByte (ws_ yX6_formattedByte cX6_formattedByte 2 (Option.some Jvm.ClassFile.FieldType.int)) 2 85 D B0 E [.ref p0, .int p1] h (zoI r) h' := by
  unfold f_X6_formattedByte at hf
  refine zMet_of hst (by decide +kernel) rfl rfl (Nat.le_of_ble_eq_true rfl) (fun p e R s m below meth c C0 hno => ?_)
  show zW _ _ _ _ _ _ _ _ _ _ _ _ _ _ _ _ [(0, .ref p0), (1, .int p1)] []
  exact w_X6_formattedByte_b0 C0 hf
def f_X6_appendBytes_l3 (E : zE) : Nat → Nat → Int32 → Int32 → zH → Option (Unit × zH)
  | 0, _, _, _, _ => none
  | n + 1, p0, p1, p2, h =>
    if p2 < 0 then (
      some ((), h)
    ) else (
      (gR h p0 1 8).bind fun x2 =>
      (gI h p0 1 9).bind fun x4 =>
      (sI h x2 2 x4 (((p1 >>> (p2 &&& 31)).toInt8.toInt32).toInt8.toInt32)).bind fun h6 =>
      (gI h6 p0 1 9).bind fun x8 =>
      (pF h6 p0 1 9 (.int (x8 + (1 : Int32)))).bind fun h10 =>
      f_X6_appendBytes_l3 E n p0 p1 (p2 + (-8)) h10
    )
theorem w_X6_appendBytes_l3 (C0 : zCx p l e R s m args below meth c D B0 3 "FranchiseLedgerModel" cX6_appendBytes E 1 60 (Option.none : Option Jvm.ClassFile.FieldType) "appendBytes") {r : Unit} {h' : zH} : ∀ (n : Nat) (p0 : Nat) (p1 : Int32) (p2 : Int32) (h : zH), f_X6_appendBytes_l3 E n p0 p1 p2 h = some (r, h') → zW p l e R s m args below meth c D B0 3 (zEnd D B0 R below args s (zoV r) h') h 3 [(0, .ref p0), (1, .int p1), (2, .int p2)] [] := by
  intro n
  induction n with
  | zero =>
    intro p0 p1 p2 h hf
    unfold f_X6_appendBytes_l3 at hf
    cases hf
  | succ n ih =>
    intro p0 p1 p2 h hf
    unfold f_X6_appendBytes_l3 at hf
    refine zr_iload_n C0 dX6_appendBytes_3 rfl 2 rfl ?_
    refine zr_if_lt C0 (tgt := 36) dX6_appendBytes_4 (by decide) (fun c1 => ?_) (fun c1 => ?_)
    · have hf := zif_t c1 hf
      refine zretW hf ?_
      exact zr_vret C0 rfl dX6_appendBytes_36 rfl
    · have hf := zif_f c1 hf
      refine zr_aload_n C0 dX6_appendBytes_7 rfl 0 rfl ?_
      obtain ⟨x2, e3, hf⟩ := zbind hf
      refine zr_get C0 fl_X6_30_X6 dX6_appendBytes_8 (zgR e3) ?_
      refine zr_aload_n C0 dX6_appendBytes_11 rfl 0 rfl ?_
      obtain ⟨x4, e5, hf⟩ := zbind hf
      refine zr_get C0 fl_X6_296_X6 dX6_appendBytes_12 (zgI e5) ?_
      refine zr_iload_n C0 dX6_appendBytes_15 rfl 1 rfl ?_
      refine zr_iload_n C0 dX6_appendBytes_16 rfl 2 rfl ?_
      refine zr_ishr C0 dX6_appendBytes_17 ?_
      refine zr_i2b C0 dX6_appendBytes_18 ?_
      obtain ⟨h6, e7, hf⟩ := zbind hf
      refine zr_bast C0 dX6_appendBytes_19 e7 ?_
      refine zr_aload_n C0 dX6_appendBytes_20 rfl 0 rfl ?_
      refine zr_dup C0 dX6_appendBytes_21 rfl ?_
      obtain ⟨x8, e9, hf⟩ := zbind hf
      refine zr_get C0 fl_X6_296_X6 dX6_appendBytes_22 (zgI e9) ?_
      refine zr_iconst C0 (v := 1) dX6_appendBytes_25 (by decide) ?_
      refine zr_iadd C0 dX6_appendBytes_26 ?_
      obtain ⟨h10, e11, hf⟩ := zbind hf
      refine zr_put C0 pl_X6_296_X6 dX6_appendBytes_27 (fun h => by cases h) rfl rfl e11 ?_
      refine zr_iinc (lv' := [(2, .int (p2 + (-8))), (0, .ref p0), (1, .int p1)]) C0 dX6_appendBytes_30 2 rfl rfl (by decide) (by first | rfl | simp [zst1, zst2, zcat_rf]) ?_
      refine zr_goto C0 (tgt := 3) dX6_appendBytes_33 (by decide) ?_
      refine zr_sub [1, 2, 0] rfl ?_
      exact ih _ _ _ _ hf
def f_X6_appendBytes_b0 (E : zE) (p0 : Nat) (p1 : Int32) (h : zH) : Option (Unit × zH) :=
  f_X6_appendBytes_l3 E E.1 p0 p1 (24 : Int32) h
theorem w_X6_appendBytes_b0 (C0 : zCx p l e R s m args below meth c D B0 3 "FranchiseLedgerModel" cX6_appendBytes E 1 60 (Option.none : Option Jvm.ClassFile.FieldType) "appendBytes") {r : Unit} {h' : zH} {p0 : Nat} {p1 : Int32} {h : zH} (hf : f_X6_appendBytes_b0 E p0 p1 h = some (r, h')) : zW p l e R s m args below meth c D B0 3 (zEnd D B0 R below args s (zoV r) h') h 0 [(0, .ref p0), (1, .int p1)] [] := by
  unfold f_X6_appendBytes_b0 at hf
  refine zr_bipush C0 (v := 24) dX6_appendBytes_0 (by decide) ?_
  refine zr_istore_n (i := 2) (lv' := [(2, .int (24 : Int32)), (0, .ref p0), (1, .int p1)]) C0 dX6_appendBytes_2 rfl (by decide) (by first | rfl | simp [zst1, zst2, zcat_rf]) ?_
  refine zr_sub [1, 2, 0] rfl ?_
  exact w_X6_appendBytes_l3 C0 _ _ _ _ _ hf
def f_X6_appendBytes (E : zE) (p0 : Nat) (p1 : Int32) (h : zH) : Option (Unit × zH) := f_X6_appendBytes_b0 E p0 p1 h
theorem m_X6_appendBytes {l : Launch} (hst : l.stackTraces = false) {D : zD} {B0 : Nat} {E : zE} {p0 : Nat} {p1 : Int32} {h h' : zH} {r : Unit} (hf : f_X6_appendBytes E p0 p1 h = some (r, h')) : zMet l yX6_appendBytes (ws_ yX6_appendBytes cX6_appendBytes 3 (Option.none : Option Jvm.ClassFile.FieldType)) 1 60 D B0 E [.ref p0, .int p1] h (zoV r) h' := by
  unfold f_X6_appendBytes at hf
  refine zMet_of hst (by decide +kernel) rfl rfl (Nat.le_of_ble_eq_true rfl) (fun p e R s m below meth c C0 hno => ?_)
  show zW _ _ _ _ _ _ _ _ _ _ _ _ _ _ _ _ [(0, .ref p0), (1, .int p1)] []
  exact w_X6_appendBytes_b0 C0 hf
def f_X6_appendInput_b0 (E : zE) (p0 : Nat) (p1 : Int32) (p2 : Int32) (p3 : Int32) (p4 : Int32) (p5 : Int32) (h : zH) : Option (Int32 × zH) :=
  (pF h p0 1 2 (.int (0 : Int32))).bind fun h1 =>
  (gI h1 p0 1 9).bind fun x3 =>
  if (x3 + (20 : Int32)) ≤ (1500 : Int32) then (
    (cko h1 p0 1).bind fun _ =>
    bnd2 (f_X6_appendBytes E p0 p1 h1) fun x9 h7 =>
    (cko h7 p0 1).bind fun _ =>
    bnd2 (f_X6_appendBytes E p0 p2 h7) fun x13 h11 =>
    (cko h11 p0 1).bind fun _ =>
    bnd2 (f_X6_appendBytes E p0 p3 h11) fun x17 h15 =>
    (cko h15 p0 1).bind fun _ =>
    bnd2 (f_X6_appendBytes E p0 p4 h15) fun x21 h19 =>
    (cko h19 p0 1).bind fun _ =>
    bnd2 (f_X6_appendBytes E p0 p5 h19) fun x25 h23 =>
    (gI h23 p0 1 9).bind fun x26 =>
    some (x26, h23)
  ) else (
    some ((-1 : Int32), h1)
  )
theorem w_X6_appendInput_b0 (C0 : zCx p l e R s m args below meth c D B0 6 "FranchiseLedgerModel" cX6_appendInput E 2 82 (Option.some Jvm.ClassFile.FieldType.int) "appendInput") {r : Int32} {h' : zH} {p0 : Nat} {p1 : Int32} {p2 : Int32} {p3 : Int32} {p4 : Int32} {p5 : Int32} {h : zH} (hf : f_X6_appendInput_b0 E p0 p1 p2 p3 p4 p5 h = some (r, h')) : zW p l e R s m args below meth c D B0 6 (zEnd D B0 R below args s (zoI r) h') h 0 [(0, .ref p0), (1, .int p1), (2, .int p2), (3, .int p3), (4, .int p4), (5, .int p5)] [] := by
  unfold f_X6_appendInput_b0 at hf
  refine zr_aload_n C0 dX6_appendInput_0 rfl 0 rfl ?_
  refine zr_iconst C0 (v := 0) dX6_appendInput_1 (by decide) ?_
  obtain ⟨h1, e2, hf⟩ := zbind hf
  refine zr_put C0 pl_X6_50_X6 dX6_appendInput_2 (fun h => by cases h) rfl rfl e2 ?_
  refine zr_aload_n C0 dX6_appendInput_5 rfl 0 rfl ?_
  obtain ⟨x3, e4, hf⟩ := zbind hf
  refine zr_get C0 fl_X6_296_X6 dX6_appendInput_6 (zgI e4) ?_
  refine zr_bipush C0 (v := 20) dX6_appendInput_9 (by decide) ?_
  refine zr_iadd C0 dX6_appendInput_11 ?_
  refine zr_sipush C0 (v := 1500) dX6_appendInput_12 (by decide) ?_
  refine zr_icmp_le C0 (tgt := 20) dX6_appendInput_15 (by decide) (fun c5 => ?_) (fun c5 => ?_)
  · have hf := zif_t c5 hf
    refine zr_aload_n C0 dX6_appendInput_20 rfl 0 rfl ?_
    refine zr_iload_n C0 dX6_appendInput_21 rfl 1 rfl ?_
    obtain ⟨_, e6, hf⟩ := zbind hf
    obtain ⟨x9, h7, e8, hf⟩ := zbind2 hf
    refine zr_callV_r C0 cv_X6_299_X6 rfl (zcko e6) (m_X6_appendBytes C0.2.2.2.2.2.2.1 e8) (by decide) (by decide) rfl rfl (Nat.le_of_ble_eq_true rfl) dX6_appendInput_22 rfl ?_
    refine zr_aload_n C0 dX6_appendInput_25 rfl 0 rfl ?_
    refine zr_iload_n C0 dX6_appendInput_26 rfl 2 rfl ?_
    obtain ⟨_, e10, hf⟩ := zbind hf
    obtain ⟨x13, h11, e12, hf⟩ := zbind2 hf
    refine zr_callV_r C0 cv_X6_299_X6 rfl (zcko e10) (m_X6_appendBytes C0.2.2.2.2.2.2.1 e12) (by decide) (by decide) rfl rfl (Nat.le_of_ble_eq_true rfl) dX6_appendInput_27 rfl ?_
    refine zr_aload_n C0 dX6_appendInput_30 rfl 0 rfl ?_
    refine zr_iload_n C0 dX6_appendInput_31 rfl 3 rfl ?_
    obtain ⟨_, e14, hf⟩ := zbind hf
    obtain ⟨x17, h15, e16, hf⟩ := zbind2 hf
    refine zr_callV_r C0 cv_X6_299_X6 rfl (zcko e14) (m_X6_appendBytes C0.2.2.2.2.2.2.1 e16) (by decide) (by decide) rfl rfl (Nat.le_of_ble_eq_true rfl) dX6_appendInput_32 rfl ?_
    refine zr_aload_n C0 dX6_appendInput_35 rfl 0 rfl ?_
    refine zr_iload C0 dX6_appendInput_36 4 rfl ?_
    obtain ⟨_, e18, hf⟩ := zbind hf
    obtain ⟨x21, h19, e20, hf⟩ := zbind2 hf
    refine zr_callV_r C0 cv_X6_299_X6 rfl (zcko e18) (m_X6_appendBytes C0.2.2.2.2.2.2.1 e20) (by decide) (by decide) rfl rfl (Nat.le_of_ble_eq_true rfl) dX6_appendInput_38 rfl ?_
    refine zr_aload_n C0 dX6_appendInput_41 rfl 0 rfl ?_
    refine zr_iload C0 dX6_appendInput_42 5 rfl ?_
    obtain ⟨_, e22, hf⟩ := zbind hf
    obtain ⟨x25, h23, e24, hf⟩ := zbind2 hf
    refine zr_callV_r C0 cv_X6_299_X6 rfl (zcko e22) (m_X6_appendBytes C0.2.2.2.2.2.2.1 e24) (by decide) (by decide) rfl rfl (Nat.le_of_ble_eq_true rfl) dX6_appendInput_44 rfl ?_
    refine zr_aload_n C0 dX6_appendInput_47 rfl 0 rfl ?_
    obtain ⟨x26, e27, hf⟩ := zbind hf
    refine zr_get C0 fl_X6_296_X6 dX6_appendInput_48 (zgI e27) ?_
    refine zretW hf ?_
    exact zr_iret C0 (ty := .int) rfl rfl dX6_appendInput_51 rfl
  · have hf := zif_f c5 hf
    refine zr_iconst C0 (v := -1) dX6_appendInput_18 (by decide) ?_
    refine zretW hf ?_
    exact zr_iret C0 (ty := .int) rfl rfl dX6_appendInput_19 rfl
def f_X6_appendInput (E : zE) (p0 : Nat) (p1 : Int32) (p2 : Int32) (p3 : Int32) (p4 : Int32) (p5 : Int32) (h : zH) : Option (Int32 × zH) := f_X6_appendInput_b0 E p0 p1 p2 p3 p4 p5 h
theorem m_X6_appendInput {l : Launch} (hst : l.stackTraces = false) {D : zD} {B0 : Nat} {E : zE} {p0 : Nat} {p1 : Int32} {p2 : Int32} {p3 : Int32} {p4 : Int32} {p5 : Int32} {h h' : zH} {r : Int32} (hf : f_X6_appendInput E p0 p1 p2 p3 p4 p5 h = some (r, h')) : zMet l yX6_appendInput (ws_ yX6_appendInput cX6_appendInput 6 (Option.some Jvm.ClassFile.FieldType.int)) 2 82 D B0 E [.ref p0, .int p1, .int p2, .int p3, .int p4, .int p5] h (zoI r) h' := by
  unfold f_X6_appendInput at hf
  refine zMet_of hst (by decide +kernel) rfl rfl (Nat.le_of_ble_eq_true rfl) (fun p e R s m below meth c C0 hno => ?_)
  show zW _ _ _ _ _ _ _ _ _ _ _ _ _ _ _ _ [(0, .ref p0), (1, .int p1), (2, .int p2), (3, .int p3), (4, .int p4), (5, .int p5)] []
  exact w_X6_appendInput_b0 C0 hf
def f_X6_truncateInput_b0 (E : zE) (p0 : Nat) (p1 : Int32) (h : zH) : Option (Int32 × zH) :=
  (pF h p0 1 2 (.int (0 : Int32))).bind fun h1 =>
  (gI h1 p0 1 9).bind fun x3 =>
  bnd2 (f_X6_inRange E (p1.toInt64) (0 : Int64) (x3.toInt64) h1) fun x7 h5 =>
  if x7 = 0 then (
    some ((-1 : Int32), h5)
  ) else (
    (pF h5 p0 1 9 (.int p1)).bind fun h9 =>
    some (p1, h9)
  )
theorem w_X6_truncateInput_b0 (C0 : zCx p l e R s m args below meth c D B0 2 "FranchiseLedgerModel" cX6_truncateInput E 2 85 (Option.some Jvm.ClassFile.FieldType.int) "truncateInput") {r : Int32} {h' : zH} {p0 : Nat} {p1 : Int32} {h : zH} (hf : f_X6_truncateInput_b0 E p0 p1 h = some (r, h')) : zW p l e R s m args below meth c D B0 2 (zEnd D B0 R below args s (zoI r) h') h 0 [(0, .ref p0), (1, .int p1)] [] := by
  unfold f_X6_truncateInput_b0 at hf
  refine zr_aload_n C0 dX6_truncateInput_0 rfl 0 rfl ?_
  refine zr_iconst C0 (v := 0) dX6_truncateInput_1 (by decide) ?_
  obtain ⟨h1, e2, hf⟩ := zbind hf
  refine zr_put C0 pl_X6_50_X6 dX6_truncateInput_2 (fun h => by cases h) rfl rfl e2 ?_
  refine zr_iload_n C0 dX6_truncateInput_5 rfl 1 rfl ?_
  refine zr_i2l C0 dX6_truncateInput_6 ?_
  refine zr_lconst C0 (v := 0) dX6_truncateInput_7 (by decide) ?_
  refine zr_aload_n C0 dX6_truncateInput_8 rfl 0 rfl ?_
  obtain ⟨x3, e4, hf⟩ := zbind hf
  refine zr_get C0 fl_X6_296_X6 dX6_truncateInput_9 (zgI e4) ?_
  refine zr_i2l C0 dX6_truncateInput_12 ?_
  obtain ⟨x7, h5, e6, hf⟩ := zbind2 hf
  refine zr_callS_r C0 cv_X6_53 (m_X6_inRange C0.2.2.2.2.2.2.1 e6) (by decide) (by decide) rfl rfl (Nat.le_of_ble_eq_true rfl) dX6_truncateInput_13 rfl ?_
  refine zr_if_ne C0 (tgt := 21) dX6_truncateInput_16 (by decide) (fun c8 => ?_) (fun c8 => ?_)
  · have hf := zif_f c8 hf
    refine zr_aload_n C0 dX6_truncateInput_21 rfl 0 rfl ?_
    refine zr_iload_n C0 dX6_truncateInput_22 rfl 1 rfl ?_
    obtain ⟨h9, e10, hf⟩ := zbind hf
    refine zr_put C0 pl_X6_296_X6 dX6_truncateInput_23 (fun h => by cases h) rfl rfl e10 ?_
    refine zr_iload_n C0 dX6_truncateInput_26 rfl 1 rfl ?_
    refine zretW hf ?_
    exact zr_iret C0 (ty := .int) rfl rfl dX6_truncateInput_27 rfl
  · have hf := zif_t c8 hf
    refine zr_iconst C0 (v := -1) dX6_truncateInput_19 (by decide) ?_
    refine zretW hf ?_
    exact zr_iret C0 (ty := .int) rfl rfl dX6_truncateInput_20 rfl
def f_X6_truncateInput (E : zE) (p0 : Nat) (p1 : Int32) (h : zH) : Option (Int32 × zH) := f_X6_truncateInput_b0 E p0 p1 h
theorem m_X6_truncateInput {l : Launch} (hst : l.stackTraces = false) {D : zD} {B0 : Nat} {E : zE} {p0 : Nat} {p1 : Int32} {h h' : zH} {r : Int32} (hf : f_X6_truncateInput E p0 p1 h = some (r, h')) : zMet l yX6_truncateInput (ws_ yX6_truncateInput cX6_truncateInput 2 (Option.some Jvm.ClassFile.FieldType.int)) 2 85 D B0 E [.ref p0, .int p1] h (zoI r) h' := by
  unfold f_X6_truncateInput at hf
  refine zMet_of hst (by decide +kernel) rfl rfl (Nat.le_of_ble_eq_true rfl) (fun p e R s m below meth c C0 hno => ?_)
  show zW _ _ _ _ _ _ _ _ _ _ _ _ _ _ _ _ [(0, .ref p0), (1, .int p1)] []
  exact w_X6_truncateInput_b0 C0 hf
def f_X6_errorCode_b0 (E : zE) (p0 : Nat) (h : zH) : Option (Int32 × zH) :=
  (pF h p0 1 2 (.int (0 : Int32))).bind fun h1 =>
  (gI h1 p0 1 11).bind fun x3 =>
  some (x3, h1)
theorem w_X6_errorCode_b0 (C0 : zCx p l e R s m args below meth c D B0 1 "FranchiseLedgerModel" cX6_errorCode E 1 60 (Option.some Jvm.ClassFile.FieldType.int) "errorCode") {r : Int32} {h' : zH} {p0 : Nat} {h : zH} (hf : f_X6_errorCode_b0 E p0 h = some (r, h')) : zW p l e R s m args below meth c D B0 1 (zEnd D B0 R below args s (zoI r) h') h 0 [(0, .ref p0)] [] := by
  unfold f_X6_errorCode_b0 at hf
  refine zr_aload_n C0 dX6_errorCode_0 rfl 0 rfl ?_
  refine zr_iconst C0 (v := 0) dX6_errorCode_1 (by decide) ?_
  obtain ⟨h1, e2, hf⟩ := zbind hf
  refine zr_put C0 pl_X6_50_X6 dX6_errorCode_2 (fun h => by cases h) rfl rfl e2 ?_
  refine zr_aload_n C0 dX6_errorCode_5 rfl 0 rfl ?_
  obtain ⟨x3, e4, hf⟩ := zbind hf
  refine zr_get C0 fl_X6_302_X6 dX6_errorCode_6 (zgI e4) ?_
  refine zretW hf ?_
  exact zr_iret C0 (ty := .int) rfl rfl dX6_errorCode_9 rfl
def f_X6_errorCode (E : zE) (p0 : Nat) (h : zH) : Option (Int32 × zH) := f_X6_errorCode_b0 E p0 h
theorem m_X6_errorCode {l : Launch} (hst : l.stackTraces = false) {D : zD} {B0 : Nat} {E : zE} {p0 : Nat} {h h' : zH} {r : Int32} (hf : f_X6_errorCode E p0 h = some (r, h')) : zMet l yX6_errorCode (ws_ yX6_errorCode cX6_errorCode 1 (Option.some Jvm.ClassFile.FieldType.int)) 1 60 D B0 E [.ref p0] h (zoI r) h' := by
  unfold f_X6_errorCode at hf
  refine zMet_of hst (by decide +kernel) rfl rfl (Nat.le_of_ble_eq_true rfl) (fun p e R s m below meth c C0 hno => ?_)
  show zW _ _ _ _ _ _ _ _ _ _ _ _ _ _ _ _ [(0, .ref p0)] []
  exact w_X6_errorCode_b0 C0 hf
def f_X6_errorPosition_b0 (E : zE) (p0 : Nat) (h : zH) : Option (Int32 × zH) :=
  (pF h p0 1 2 (.int (0 : Int32))).bind fun h1 =>
  (gI h1 p0 1 12).bind fun x3 =>
  some (x3, h1)
theorem w_X6_errorPosition_b0 (C0 : zCx p l e R s m args below meth c D B0 1 "FranchiseLedgerModel" cX6_errorPosition E 1 60 (Option.some Jvm.ClassFile.FieldType.int) "errorPosition") {r : Int32} {h' : zH} {p0 : Nat} {h : zH} (hf : f_X6_errorPosition_b0 E p0 h = some (r, h')) : zW p l e R s m args below meth c D B0 1 (zEnd D B0 R below args s (zoI r) h') h 0 [(0, .ref p0)] [] := by
  unfold f_X6_errorPosition_b0 at hf
  refine zr_aload_n C0 dX6_errorPosition_0 rfl 0 rfl ?_
  refine zr_iconst C0 (v := 0) dX6_errorPosition_1 (by decide) ?_
  obtain ⟨h1, e2, hf⟩ := zbind hf
  refine zr_put C0 pl_X6_50_X6 dX6_errorPosition_2 (fun h => by cases h) rfl rfl e2 ?_
  refine zr_aload_n C0 dX6_errorPosition_5 rfl 0 rfl ?_
  obtain ⟨x3, e4, hf⟩ := zbind hf
  refine zr_get C0 fl_X6_33_X6 dX6_errorPosition_6 (zgI e4) ?_
  refine zretW hf ?_
  exact zr_iret C0 (ty := .int) rfl rfl dX6_errorPosition_9 rfl
def f_X6_errorPosition (E : zE) (p0 : Nat) (h : zH) : Option (Int32 × zH) := f_X6_errorPosition_b0 E p0 h
theorem m_X6_errorPosition {l : Launch} (hst : l.stackTraces = false) {D : zD} {B0 : Nat} {E : zE} {p0 : Nat} {h h' : zH} {r : Int32} (hf : f_X6_errorPosition E p0 h = some (r, h')) : zMet l yX6_errorPosition (ws_ yX6_errorPosition cX6_errorPosition 1 (Option.some Jvm.ClassFile.FieldType.int)) 1 60 D B0 E [.ref p0] h (zoI r) h' := by
  unfold f_X6_errorPosition at hf
  refine zMet_of hst (by decide +kernel) rfl rfl (Nat.le_of_ble_eq_true rfl) (fun p e R s m below meth c C0 hno => ?_)
  show zW _ _ _ _ _ _ _ _ _ _ _ _ _ _ _ _ [(0, .ref p0)] []
  exact w_X6_errorPosition_b0 C0 hf
def f_X6_byteAt_b22 (E : zE) (s0 : Int32) (h : zH) : Option (Int32 × zH) :=
  some (s0, h)
theorem w_X6_byteAt_b22 (C0 : zCx p l e R s m args below meth c D B0 2 "FranchiseLedgerModel" cX6_byteAt E 1 60 (Option.some Jvm.ClassFile.FieldType.int) "byteAt") {r : Int32} {h' : zH} {s0 : Int32} {h : zH} (hf : f_X6_byteAt_b22 E s0 h = some (r, h')) : zW p l e R s m args below meth c D B0 2 (zEnd D B0 R below args s (zoI r) h') h 22 [] [.int s0] := by
  unfold f_X6_byteAt_b22 at hf
  refine zretW hf ?_
  exact zr_iret C0 (ty := .int) rfl rfl dX6_byteAt_22 rfl
def f_X6_byteAt_b0 (E : zE) (p0 : Nat) (p1 : Int32) (h : zH) : Option (Int32 × zH) :=
  (gI h p0 1 9).bind fun x1 =>
  if x1 ≤ p1 then (
    f_X6_byteAt_b22 E (-1 : Int32) h
  ) else (
    (gR h p0 1 8).bind fun x4 =>
    (dI h x4 2 p1).bind fun x6 =>
    f_X6_byteAt_b22 E (x6 &&& (255 : Int32)) h
  )
theorem w_X6_byteAt_b0 (C0 : zCx p l e R s m args below meth c D B0 2 "FranchiseLedgerModel" cX6_byteAt E 1 60 (Option.some Jvm.ClassFile.FieldType.int) "byteAt") {r : Int32} {h' : zH} {p0 : Nat} {p1 : Int32} {h : zH} (hf : f_X6_byteAt_b0 E p0 p1 h = some (r, h')) : zW p l e R s m args below meth c D B0 2 (zEnd D B0 R below args s (zoI r) h') h 0 [(0, .ref p0), (1, .int p1)] [] := by
  unfold f_X6_byteAt_b0 at hf
  refine zr_iload_n C0 dX6_byteAt_0 rfl 1 rfl ?_
  refine zr_aload_n C0 dX6_byteAt_1 rfl 0 rfl ?_
  obtain ⟨x1, e2, hf⟩ := zbind hf
  refine zr_get C0 fl_X6_296_X6 dX6_byteAt_2 (zgI e2) ?_
  refine zr_icmp_ge C0 (tgt := 21) dX6_byteAt_5 (by decide) (fun c3 => ?_) (fun c3 => ?_)
  · have hf := zif_t c3 hf
    refine zr_iconst C0 (v := -1) dX6_byteAt_21 (by decide) ?_
    refine zr_sub [] rfl ?_
    exact w_X6_byteAt_b22 C0 hf
  · have hf := zif_f c3 hf
    refine zr_aload_n C0 dX6_byteAt_8 rfl 0 rfl ?_
    obtain ⟨x4, e5, hf⟩ := zbind hf
    refine zr_get C0 fl_X6_30_X6 dX6_byteAt_9 (zgR e5) ?_
    refine zr_iload_n C0 dX6_byteAt_12 rfl 1 rfl ?_
    obtain ⟨x6, e7, hf⟩ := zbind hf
    refine zr_bald C0 dX6_byteAt_13 e7 ?_
    refine zr_sipush C0 (v := 255) dX6_byteAt_14 (by decide) ?_
    refine zr_iand C0 dX6_byteAt_17 ?_
    refine zr_goto C0 (tgt := 22) dX6_byteAt_18 (by decide) ?_
    refine zr_sub [] rfl ?_
    exact w_X6_byteAt_b22 C0 hf
def f_X6_byteAt (E : zE) (p0 : Nat) (p1 : Int32) (h : zH) : Option (Int32 × zH) := f_X6_byteAt_b0 E p0 p1 h
theorem m_X6_byteAt {l : Launch} (hst : l.stackTraces = false) {D : zD} {B0 : Nat} {E : zE} {p0 : Nat} {p1 : Int32} {h h' : zH} {r : Int32} (hf : f_X6_byteAt E p0 p1 h = some (r, h')) : zMet l yX6_byteAt (ws_ yX6_byteAt cX6_byteAt 2 (Option.some Jvm.ClassFile.FieldType.int)) 1 60 D B0 E [.ref p0, .int p1] h (zoI r) h' := by
  unfold f_X6_byteAt at hf
  refine zMet_of hst (by decide +kernel) rfl rfl (Nat.le_of_ble_eq_true rfl) (fun p e R s m below meth c C0 hno => ?_)
  show zW _ _ _ _ _ _ _ _ _ _ _ _ _ _ _ _ [(0, .ref p0), (1, .int p1)] []
  exact w_X6_byteAt_b0 C0 hf
def f_X6_isLetter_b0 (E : zE) (p0 : Int32) (h : zH) : Option (Int32 × zH) :=
  bnd2 (f_X6_inRange E (p0.toInt64) (97 : Int64) (122 : Int64) h) fun x3 h1 =>
  (zgd .boolean x3).bind fun _ =>
  some (x3, h1)
theorem w_X6_isLetter_b0 (C0 : zCx p l e R s m args below meth c D B0 1 "FranchiseLedgerModel" cX6_isLetter E 2 85 (Option.some Jvm.ClassFile.FieldType.boolean) "isLetter") {r : Int32} {h' : zH} {p0 : Int32} {h : zH} (hf : f_X6_isLetter_b0 E p0 h = some (r, h')) : zW p l e R s m args below meth c D B0 1 (zEnd D B0 R below args s (zoI r) h') h 0 [(0, .int p0)] [] := by
  unfold f_X6_isLetter_b0 at hf
  refine zr_iload_n C0 dX6_isLetter_0 rfl 0 rfl ?_
  refine zr_i2l C0 dX6_isLetter_1 ?_
  refine zr_ldc2 C0 (v := 97) q3106 dX6_isLetter_2 ?_
  refine zr_ldc2 C0 (v := 122) q3107 dX6_isLetter_5 ?_
  obtain ⟨x3, h1, e2, hf⟩ := zbind2 hf
  refine zr_callS_r C0 cv_X6_53 (m_X6_inRange C0.2.2.2.2.2.2.1 e2) (by decide) (by decide) rfl rfl (Nat.le_of_ble_eq_true rfl) dX6_isLetter_8 rfl ?_
  obtain ⟨_, e4, hf⟩ := zbind hf
  refine zretW hf ?_
  exact zr_iret C0 (ty := .boolean) rfl (zgd_n e4) dX6_isLetter_11 rfl
def f_X6_isLetter (E : zE) (p0 : Int32) (h : zH) : Option (Int32 × zH) := f_X6_isLetter_b0 E p0 h
theorem m_X6_isLetter {l : Launch} (hst : l.stackTraces = false) {D : zD} {B0 : Nat} {E : zE} {p0 : Int32} {h h' : zH} {r : Int32} (hf : f_X6_isLetter E p0 h = some (r, h')) : zMet l yX6_isLetter (ws_ yX6_isLetter cX6_isLetter 1 (Option.some Jvm.ClassFile.FieldType.boolean)) 2 85 D B0 E [.int p0] h (zoI r) h' := by
  unfold f_X6_isLetter at hf
  refine zMet_of hst (by decide +kernel) rfl rfl (Nat.le_of_ble_eq_true rfl) (fun p e R s m below meth c C0 hno => ?_)
  show zW _ _ _ _ _ _ _ _ _ _ _ _ _ _ _ _ [(0, .int p0)] []
  exact w_X6_isLetter_b0 C0 hf
def f_X6_isDigit_b0 (E : zE) (p0 : Int32) (h : zH) : Option (Int32 × zH) :=
  bnd2 (f_X6_inRange E (p0.toInt64) (48 : Int64) (57 : Int64) h) fun x3 h1 =>
  (zgd .boolean x3).bind fun _ =>
  some (x3, h1)
theorem w_X6_isDigit_b0 (C0 : zCx p l e R s m args below meth c D B0 1 "FranchiseLedgerModel" cX6_isDigit E 2 85 (Option.some Jvm.ClassFile.FieldType.boolean) "isDigit") {r : Int32} {h' : zH} {p0 : Int32} {h : zH} (hf : f_X6_isDigit_b0 E p0 h = some (r, h')) : zW p l e R s m args below meth c D B0 1 (zEnd D B0 R below args s (zoI r) h') h 0 [(0, .int p0)] [] := by
  unfold f_X6_isDigit_b0 at hf
  refine zr_iload_n C0 dX6_isDigit_0 rfl 0 rfl ?_
  refine zr_i2l C0 dX6_isDigit_1 ?_
  refine zr_ldc2 C0 (v := 48) q3111 dX6_isDigit_2 ?_
  refine zr_ldc2 C0 (v := 57) q3112 dX6_isDigit_5 ?_
  obtain ⟨x3, h1, e2, hf⟩ := zbind2 hf
  refine zr_callS_r C0 cv_X6_53 (m_X6_inRange C0.2.2.2.2.2.2.1 e2) (by decide) (by decide) rfl rfl (Nat.le_of_ble_eq_true rfl) dX6_isDigit_8 rfl ?_
  obtain ⟨_, e4, hf⟩ := zbind hf
  refine zretW hf ?_
  exact zr_iret C0 (ty := .boolean) rfl (zgd_n e4) dX6_isDigit_11 rfl
def f_X6_isDigit (E : zE) (p0 : Int32) (h : zH) : Option (Int32 × zH) := f_X6_isDigit_b0 E p0 h
theorem m_X6_isDigit {l : Launch} (hst : l.stackTraces = false) {D : zD} {B0 : Nat} {E : zE} {p0 : Int32} {h h' : zH} {r : Int32} (hf : f_X6_isDigit E p0 h = some (r, h')) : zMet l yX6_isDigit (ws_ yX6_isDigit cX6_isDigit 1 (Option.some Jvm.ClassFile.FieldType.boolean)) 2 85 D B0 E [.int p0] h (zoI r) h' := by
  unfold f_X6_isDigit at hf
  refine zMet_of hst (by decide +kernel) rfl rfl (Nat.le_of_ble_eq_true rfl) (fun p e R s m below meth c C0 hno => ?_)
  show zW _ _ _ _ _ _ _ _ _ _ _ _ _ _ _ _ [(0, .int p0)] []
  exact w_X6_isDigit_b0 C0 hf
def f_X6_advance_b26 (E : zE) (k0 : Nat → zH → Option (Unit × zH)) (p0 : Nat) (h : zH) : Option (Unit × zH) :=
  (gI h p0 1 10).bind fun x1 =>
  (pF h p0 1 10 (.int (x1 + (1 : Int32)))).bind fun h3 =>
  k0 p0 h3
theorem w_X6_advance_b26 (C0 : zCx p l e R s m args below meth c D B0 2 "FranchiseLedgerModel" cX6_advance E 3 105 (Option.none : Option Jvm.ClassFile.FieldType) "advance") {r : Unit} {h' : zH} {k0 : Nat → zH → Option (Unit × zH)} (hk0 : ∀ (p0 : Nat) (h : zH), k0 p0 h = some (r, h') → zW p l e R s m args below meth c D B0 2 (zEnd D B0 R below args s (zoV r) h') h 0 [(0, .ref p0)] []) {p0 : Nat} {h : zH} (hf : f_X6_advance_b26 E k0 p0 h = some (r, h')) : zW p l e R s m args below meth c D B0 2 (zEnd D B0 R below args s (zoV r) h') h 26 [(0, .ref p0)] [] := by
  unfold f_X6_advance_b26 at hf
  refine zr_aload_n C0 dX6_advance_26 rfl 0 rfl ?_
  refine zr_dup C0 dX6_advance_27 rfl ?_
  obtain ⟨x1, e2, hf⟩ := zbind hf
  refine zr_get C0 fl_X6_313_X6 dX6_advance_28 (zgI e2) ?_
  refine zr_iconst C0 (v := 1) dX6_advance_31 (by decide) ?_
  refine zr_iadd C0 dX6_advance_32 ?_
  obtain ⟨h3, e4, hf⟩ := zbind hf
  refine zr_put C0 pl_X6_313_X6 dX6_advance_33 (fun h => by cases h) rfl rfl e4 ?_
  refine zr_goto C0 (tgt := 0) dX6_advance_36 (by decide) ?_
  exact hk0 _ _ hf
def f_X6_advance_b332 (E : zE) (h : zH) : Option (Unit × zH) :=
  some ((), h)
theorem w_X6_advance_b332 (C0 : zCx p l e R s m args below meth c D B0 2 "FranchiseLedgerModel" cX6_advance E 3 105 (Option.none : Option Jvm.ClassFile.FieldType) "advance") {r : Unit} {h' : zH} {h : zH} (hf : f_X6_advance_b332 E  h = some (r, h')) : zW p l e R s m args below meth c D B0 2 (zEnd D B0 R below args s (zoV r) h') h 332 [] [] := by
  unfold f_X6_advance_b332 at hf
  refine zretW hf ?_
  exact zr_vret C0 rfl dX6_advance_332 rfl
def f_X6_advance_b327 (E : zE) (p0 : Nat) (h : zH) : Option (Unit × zH) :=
  (pF h p0 1 13 (.int (4 : Int32))).bind fun h1 =>
  f_X6_advance_b332 E  h1
theorem w_X6_advance_b327 (C0 : zCx p l e R s m args below meth c D B0 2 "FranchiseLedgerModel" cX6_advance E 3 105 (Option.none : Option Jvm.ClassFile.FieldType) "advance") {r : Unit} {h' : zH} {p0 : Nat} {h : zH} (hf : f_X6_advance_b327 E p0 h = some (r, h')) : zW p l e R s m args below meth c D B0 2 (zEnd D B0 R below args s (zoV r) h') h 327 [(0, .ref p0)] [] := by
  unfold f_X6_advance_b327 at hf
  refine zr_aload_n C0 dX6_advance_327 rfl 0 rfl ?_
  refine zr_iconst C0 (v := 4) dX6_advance_328 (by decide) ?_
  obtain ⟨h1, e2, hf⟩ := zbind hf
  refine zr_put C0 pl_X6_332_X6 dX6_advance_329 (fun h => by cases h) rfl rfl e2 ?_
  refine zr_sub [] rfl ?_
  exact w_X6_advance_b332 C0 hf
def f_X6_advance_b305 (E : zE) (p0 : Nat) (h : zH) : Option (Unit × zH) :=
  (gI h p0 1 13).bind fun x1 =>
  if x1 = (2 : Int32) then (
    (gI h p0 1 10).bind fun x4 =>
    (gI h p0 1 14).bind fun x6 =>
    if (x4 - x6) ≤ (6 : Int32) then (
      f_X6_advance_b332 E  h
    ) else (
      f_X6_advance_b327 E p0 h
    )
  ) else (
    f_X6_advance_b332 E  h
  )
theorem w_X6_advance_b305 (C0 : zCx p l e R s m args below meth c D B0 2 "FranchiseLedgerModel" cX6_advance E 3 105 (Option.none : Option Jvm.ClassFile.FieldType) "advance") {r : Unit} {h' : zH} {p0 : Nat} {h : zH} (hf : f_X6_advance_b305 E p0 h = some (r, h')) : zW p l e R s m args below meth c D B0 2 (zEnd D B0 R below args s (zoV r) h') h 305 [(0, .ref p0)] [] := by
  unfold f_X6_advance_b305 at hf
  refine zr_aload_n C0 dX6_advance_305 rfl 0 rfl ?_
  obtain ⟨x1, e2, hf⟩ := zbind hf
  refine zr_get C0 fl_X6_332_X6 dX6_advance_306 (zgI e2) ?_
  refine zr_iconst C0 (v := 2) dX6_advance_309 (by decide) ?_
  refine zr_icmp_ne C0 (tgt := 332) dX6_advance_310 (by decide) (fun c3 => ?_) (fun c3 => ?_)
  · have hf := zif_f c3 hf
    refine zr_sub [] rfl ?_
    exact w_X6_advance_b332 C0 hf
  · have hf := zif_t c3 hf
    refine zr_aload_n C0 dX6_advance_313 rfl 0 rfl ?_
    obtain ⟨x4, e5, hf⟩ := zbind hf
    refine zr_get C0 fl_X6_313_X6 dX6_advance_314 (zgI e5) ?_
    refine zr_aload_n C0 dX6_advance_317 rfl 0 rfl ?_
    obtain ⟨x6, e7, hf⟩ := zbind hf
    refine zr_get C0 fl_X6_319_X6 dX6_advance_318 (zgI e7) ?_
    refine zr_isub C0 dX6_advance_321 ?_
    refine zr_bipush C0 (v := 6) dX6_advance_322 (by decide) ?_
    refine zr_icmp_le C0 (tgt := 332) dX6_advance_324 (by decide) (fun c8 => ?_) (fun c8 => ?_)
    · have hf := zif_t c8 hf
      refine zr_sub [] rfl ?_
      exact w_X6_advance_b332 C0 hf
    · have hf := zif_f c8 hf
      exact w_X6_advance_b327 C0 hf
def f_X6_advance_b283 (E : zE) (p0 : Nat) (h : zH) : Option (Unit × zH) :=
  (gI h p0 1 13).bind fun x1 =>
  if x1 = (1 : Int32) then (
    (gI h p0 1 10).bind fun x4 =>
    (gI h p0 1 14).bind fun x6 =>
    if (10 : Int32) < (x4 - x6) then (
      f_X6_advance_b327 E p0 h
    ) else (
      f_X6_advance_b305 E p0 h
    )
  ) else (
    f_X6_advance_b305 E p0 h
  )
theorem w_X6_advance_b283 (C0 : zCx p l e R s m args below meth c D B0 2 "FranchiseLedgerModel" cX6_advance E 3 105 (Option.none : Option Jvm.ClassFile.FieldType) "advance") {r : Unit} {h' : zH} {p0 : Nat} {h : zH} (hf : f_X6_advance_b283 E p0 h = some (r, h')) : zW p l e R s m args below meth c D B0 2 (zEnd D B0 R below args s (zoV r) h') h 283 [(0, .ref p0)] [] := by
  unfold f_X6_advance_b283 at hf
  refine zr_aload_n C0 dX6_advance_283 rfl 0 rfl ?_
  obtain ⟨x1, e2, hf⟩ := zbind hf
  refine zr_get C0 fl_X6_332_X6 dX6_advance_284 (zgI e2) ?_
  refine zr_iconst C0 (v := 1) dX6_advance_287 (by decide) ?_
  refine zr_icmp_ne C0 (tgt := 305) dX6_advance_288 (by decide) (fun c3 => ?_) (fun c3 => ?_)
  · have hf := zif_f c3 hf
    exact w_X6_advance_b305 C0 hf
  · have hf := zif_t c3 hf
    refine zr_aload_n C0 dX6_advance_291 rfl 0 rfl ?_
    obtain ⟨x4, e5, hf⟩ := zbind hf
    refine zr_get C0 fl_X6_313_X6 dX6_advance_292 (zgI e5) ?_
    refine zr_aload_n C0 dX6_advance_295 rfl 0 rfl ?_
    obtain ⟨x6, e7, hf⟩ := zbind hf
    refine zr_get C0 fl_X6_319_X6 dX6_advance_296 (zgI e7) ?_
    refine zr_isub C0 dX6_advance_299 ?_
    refine zr_bipush C0 (v := 10) dX6_advance_300 (by decide) ?_
    refine zr_icmp_gt C0 (tgt := 327) dX6_advance_302 (by decide) (fun c8 => ?_) (fun c8 => ?_)
    · have hf := zif_t c8 hf
      exact w_X6_advance_b327 C0 hf
    · have hf := zif_f c8 hf
      exact w_X6_advance_b305 C0 hf
def f_X6_advance_b270 (E : zE) (k208 : Nat → zH → Option (Unit × zH)) (p0 : Nat) (h : zH) : Option (Unit × zH) :=
  (gI h p0 1 10).bind fun x1 =>
  (pF h p0 1 10 (.int (x1 + (1 : Int32)))).bind fun h3 =>
  k208 p0 h3
theorem w_X6_advance_b270 (C0 : zCx p l e R s m args below meth c D B0 2 "FranchiseLedgerModel" cX6_advance E 3 105 (Option.none : Option Jvm.ClassFile.FieldType) "advance") {r : Unit} {h' : zH} {k208 : Nat → zH → Option (Unit × zH)} (hk208 : ∀ (p0 : Nat) (h : zH), k208 p0 h = some (r, h') → zW p l e R s m args below meth c D B0 2 (zEnd D B0 R below args s (zoV r) h') h 208 [(0, .ref p0)] []) {p0 : Nat} {h : zH} (hf : f_X6_advance_b270 E k208 p0 h = some (r, h')) : zW p l e R s m args below meth c D B0 2 (zEnd D B0 R below args s (zoV r) h') h 270 [(0, .ref p0)] [] := by
  unfold f_X6_advance_b270 at hf
  refine zr_aload_n C0 dX6_advance_270 rfl 0 rfl ?_
  refine zr_dup C0 dX6_advance_271 rfl ?_
  obtain ⟨x1, e2, hf⟩ := zbind hf
  refine zr_get C0 fl_X6_313_X6 dX6_advance_272 (zgI e2) ?_
  refine zr_iconst C0 (v := 1) dX6_advance_275 (by decide) ?_
  refine zr_iadd C0 dX6_advance_276 ?_
  obtain ⟨h3, e4, hf⟩ := zbind hf
  refine zr_put C0 pl_X6_313_X6 dX6_advance_277 (fun h => by cases h) rfl rfl e4 ?_
  refine zr_goto C0 (tgt := 208) dX6_advance_280 (by decide) ?_
  exact hk208 _ _ hf
def f_X6_advance_l208 (E : zE) : Nat → Nat → zH → Option (Unit × zH)
  | 0, _, _ => none
  | n + 1, p0, h =>
    (gI h p0 1 13).bind fun x1 =>
    if x1 = (2 : Int32) then (
      (gI h p0 1 10).bind fun x4 =>
      (cko h p0 1).bind fun _ =>
      bnd2 (f_X6_byteAt E p0 x4 h) fun x9 h7 =>
      bnd2 (f_X6_isDigit E x9 h7) fun x12 h10 =>
      if x12 = 0 then (
        f_X6_advance_b283 E p0 h10
      ) else (
        (gI h10 p0 1 10).bind fun x14 =>
        (gI h10 p0 1 14).bind fun x16 =>
        if (6 : Int32) ≤ (x14 - x16) then (
          f_X6_advance_b270 E (f_X6_advance_l208 E n) p0 h10
        ) else (
          (gL h10 p0 1 16).bind fun x19 =>
          (gI h10 p0 1 10).bind fun x21 =>
          (cko h10 p0 1).bind fun _ =>
          bnd2 (f_X6_byteAt E p0 x21 h10) fun x26 h24 =>
          (pF h24 p0 1 16 (.long (((x19 * (10 : Int64)) + (x26.toInt64)) - (48 : Int64)))).bind fun h27 =>
          f_X6_advance_b270 E (f_X6_advance_l208 E n) p0 h27
        )
      )
    ) else (
      f_X6_advance_b283 E p0 h
    )
theorem w_X6_advance_l208 (C0 : zCx p l e R s m args below meth c D B0 2 "FranchiseLedgerModel" cX6_advance E 3 105 (Option.none : Option Jvm.ClassFile.FieldType) "advance") {r : Unit} {h' : zH} : ∀ (n : Nat) (p0 : Nat) (h : zH), f_X6_advance_l208 E n p0 h = some (r, h') → zW p l e R s m args below meth c D B0 2 (zEnd D B0 R below args s (zoV r) h') h 208 [(0, .ref p0)] [] := by
  intro n
  induction n with
  | zero =>
    intro p0 h hf
    unfold f_X6_advance_l208 at hf
    cases hf
  | succ n ih =>
    intro p0 h hf
    unfold f_X6_advance_l208 at hf
    refine zr_aload_n C0 dX6_advance_208 rfl 0 rfl ?_
    obtain ⟨x1, e2, hf⟩ := zbind hf
    refine zr_get C0 fl_X6_332_X6 dX6_advance_209 (zgI e2) ?_
    refine zr_iconst C0 (v := 2) dX6_advance_212 (by decide) ?_
    refine zr_icmp_ne C0 (tgt := 283) dX6_advance_213 (by decide) (fun c3 => ?_) (fun c3 => ?_)
    · have hf := zif_f c3 hf
      exact w_X6_advance_b283 C0 hf
    · have hf := zif_t c3 hf
      refine zr_aload_n C0 dX6_advance_216 rfl 0 rfl ?_
      refine zr_aload_n C0 dX6_advance_217 rfl 0 rfl ?_
      obtain ⟨x4, e5, hf⟩ := zbind hf
      refine zr_get C0 fl_X6_313_X6 dX6_advance_218 (zgI e5) ?_
      obtain ⟨_, e6, hf⟩ := zbind hf
      obtain ⟨x9, h7, e8, hf⟩ := zbind2 hf
      refine zr_callV_r C0 cv_X6_316_X6 rfl (zcko e6) (m_X6_byteAt C0.2.2.2.2.2.2.1 e8) (by decide) (by decide) rfl rfl (Nat.le_of_ble_eq_true rfl) dX6_advance_221 rfl ?_
      obtain ⟨x12, h10, e11, hf⟩ := zbind2 hf
      refine zr_callS_r C0 cv_X6_329 (m_X6_isDigit C0.2.2.2.2.2.2.1 e11) (by decide) (by decide) rfl rfl (Nat.le_of_ble_eq_true rfl) dX6_advance_224 rfl ?_
      refine zr_if_eq C0 (tgt := 283) dX6_advance_227 (by decide) (fun c13 => ?_) (fun c13 => ?_)
      · have hf := zif_t c13 hf
        exact w_X6_advance_b283 C0 hf
      · have hf := zif_f c13 hf
        refine zr_aload_n C0 dX6_advance_230 rfl 0 rfl ?_
        obtain ⟨x14, e15, hf⟩ := zbind hf
        refine zr_get C0 fl_X6_313_X6 dX6_advance_231 (zgI e15) ?_
        refine zr_aload_n C0 dX6_advance_234 rfl 0 rfl ?_
        obtain ⟨x16, e17, hf⟩ := zbind hf
        refine zr_get C0 fl_X6_319_X6 dX6_advance_235 (zgI e17) ?_
        refine zr_isub C0 dX6_advance_238 ?_
        refine zr_bipush C0 (v := 6) dX6_advance_239 (by decide) ?_
        refine zr_icmp_ge C0 (tgt := 270) dX6_advance_241 (by decide) (fun c18 => ?_) (fun c18 => ?_)
        · have hf := zif_t c18 hf
          exact w_X6_advance_b270 C0 ih hf
        · have hf := zif_f c18 hf
          refine zr_aload_n C0 dX6_advance_244 rfl 0 rfl ?_
          refine zr_aload_n C0 dX6_advance_245 rfl 0 rfl ?_
          obtain ⟨x19, e20, hf⟩ := zbind hf
          refine zr_get C0 fl_X6_322_X6 dX6_advance_246 (zgL e20) ?_
          refine zr_ldc2 C0 (v := 10) q3062 dX6_advance_249 ?_
          refine zr_lmul C0 dX6_advance_252 ?_
          refine zr_aload_n C0 dX6_advance_253 rfl 0 rfl ?_
          refine zr_aload_n C0 dX6_advance_254 rfl 0 rfl ?_
          obtain ⟨x21, e22, hf⟩ := zbind hf
          refine zr_get C0 fl_X6_313_X6 dX6_advance_255 (zgI e22) ?_
          obtain ⟨_, e23, hf⟩ := zbind hf
          obtain ⟨x26, h24, e25, hf⟩ := zbind2 hf
          refine zr_callV_r C0 cv_X6_316_X6 rfl (zcko e23) (m_X6_byteAt C0.2.2.2.2.2.2.1 e25) (by decide) (by decide) rfl rfl (Nat.le_of_ble_eq_true rfl) dX6_advance_258 rfl ?_
          refine zr_i2l C0 dX6_advance_261 ?_
          refine zr_ladd C0 dX6_advance_262 ?_
          refine zr_ldc2 C0 (v := 48) q3111 dX6_advance_263 ?_
          refine zr_lsub C0 dX6_advance_266 ?_
          obtain ⟨h27, e28, hf⟩ := zbind hf
          refine zr_put C0 pl_X6_322_X6 dX6_advance_267 (fun h => by cases h) rfl rfl e28 ?_
          exact w_X6_advance_b270 C0 ih hf
def f_X6_advance_b195 (E : zE) (k133 : Nat → zH → Option (Unit × zH)) (p0 : Nat) (h : zH) : Option (Unit × zH) :=
  (gI h p0 1 10).bind fun x1 =>
  (pF h p0 1 10 (.int (x1 + (1 : Int32)))).bind fun h3 =>
  k133 p0 h3
theorem w_X6_advance_b195 (C0 : zCx p l e R s m args below meth c D B0 2 "FranchiseLedgerModel" cX6_advance E 3 105 (Option.none : Option Jvm.ClassFile.FieldType) "advance") {r : Unit} {h' : zH} {k133 : Nat → zH → Option (Unit × zH)} (hk133 : ∀ (p0 : Nat) (h : zH), k133 p0 h = some (r, h') → zW p l e R s m args below meth c D B0 2 (zEnd D B0 R below args s (zoV r) h') h 133 [(0, .ref p0)] []) {p0 : Nat} {h : zH} (hf : f_X6_advance_b195 E k133 p0 h = some (r, h')) : zW p l e R s m args below meth c D B0 2 (zEnd D B0 R below args s (zoV r) h') h 195 [(0, .ref p0)] [] := by
  unfold f_X6_advance_b195 at hf
  refine zr_aload_n C0 dX6_advance_195 rfl 0 rfl ?_
  refine zr_dup C0 dX6_advance_196 rfl ?_
  obtain ⟨x1, e2, hf⟩ := zbind hf
  refine zr_get C0 fl_X6_313_X6 dX6_advance_197 (zgI e2) ?_
  refine zr_iconst C0 (v := 1) dX6_advance_200 (by decide) ?_
  refine zr_iadd C0 dX6_advance_201 ?_
  obtain ⟨h3, e4, hf⟩ := zbind hf
  refine zr_put C0 pl_X6_313_X6 dX6_advance_202 (fun h => by cases h) rfl rfl e4 ?_
  refine zr_goto C0 (tgt := 133) dX6_advance_205 (by decide) ?_
  exact hk133 _ _ hf
def f_X6_advance_l133 (E : zE) : Nat → Nat → zH → Option (Unit × zH)
  | 0, _, _ => none
  | n + 1, p0, h =>
    (gI h p0 1 13).bind fun x1 =>
    if x1 = (1 : Int32) then (
      (gI h p0 1 10).bind fun x4 =>
      (cko h p0 1).bind fun _ =>
      bnd2 (f_X6_byteAt E p0 x4 h) fun x9 h7 =>
      bnd2 (f_X6_isLetter E x9 h7) fun x12 h10 =>
      if x12 = 0 then (
        f_X6_advance_l208 E E.1 p0 h10
      ) else (
        (gI h10 p0 1 10).bind fun x14 =>
        (gI h10 p0 1 14).bind fun x16 =>
        if (10 : Int32) ≤ (x14 - x16) then (
          f_X6_advance_b195 E (f_X6_advance_l133 E n) p0 h10
        ) else (
          (gL h10 p0 1 16).bind fun x19 =>
          (gI h10 p0 1 10).bind fun x21 =>
          (cko h10 p0 1).bind fun _ =>
          bnd2 (f_X6_byteAt E p0 x21 h10) fun x26 h24 =>
          (pF h24 p0 1 16 (.long (((x19 * (32 : Int64)) + (x26.toInt64)) - (96 : Int64)))).bind fun h27 =>
          f_X6_advance_b195 E (f_X6_advance_l133 E n) p0 h27
        )
      )
    ) else (
      f_X6_advance_l208 E E.1 p0 h
    )
theorem w_X6_advance_l133 (C0 : zCx p l e R s m args below meth c D B0 2 "FranchiseLedgerModel" cX6_advance E 3 105 (Option.none : Option Jvm.ClassFile.FieldType) "advance") {r : Unit} {h' : zH} : ∀ (n : Nat) (p0 : Nat) (h : zH), f_X6_advance_l133 E n p0 h = some (r, h') → zW p l e R s m args below meth c D B0 2 (zEnd D B0 R below args s (zoV r) h') h 133 [(0, .ref p0)] [] := by
  intro n
  induction n with
  | zero =>
    intro p0 h hf
    unfold f_X6_advance_l133 at hf
    cases hf
  | succ n ih =>
    intro p0 h hf
    unfold f_X6_advance_l133 at hf
    refine zr_aload_n C0 dX6_advance_133 rfl 0 rfl ?_
    obtain ⟨x1, e2, hf⟩ := zbind hf
    refine zr_get C0 fl_X6_332_X6 dX6_advance_134 (zgI e2) ?_
    refine zr_iconst C0 (v := 1) dX6_advance_137 (by decide) ?_
    refine zr_icmp_ne C0 (tgt := 208) dX6_advance_138 (by decide) (fun c3 => ?_) (fun c3 => ?_)
    · have hf := zif_f c3 hf
      exact w_X6_advance_l208 C0 _ _ _ hf
    · have hf := zif_t c3 hf
      refine zr_aload_n C0 dX6_advance_141 rfl 0 rfl ?_
      refine zr_aload_n C0 dX6_advance_142 rfl 0 rfl ?_
      obtain ⟨x4, e5, hf⟩ := zbind hf
      refine zr_get C0 fl_X6_313_X6 dX6_advance_143 (zgI e5) ?_
      obtain ⟨_, e6, hf⟩ := zbind hf
      obtain ⟨x9, h7, e8, hf⟩ := zbind2 hf
      refine zr_callV_r C0 cv_X6_316_X6 rfl (zcko e6) (m_X6_byteAt C0.2.2.2.2.2.2.1 e8) (by decide) (by decide) rfl rfl (Nat.le_of_ble_eq_true rfl) dX6_advance_146 rfl ?_
      obtain ⟨x12, h10, e11, hf⟩ := zbind2 hf
      refine zr_callS_r C0 cv_X6_326 (m_X6_isLetter C0.2.2.2.2.2.2.1 e11) (by decide) (by decide) rfl rfl (Nat.le_of_ble_eq_true rfl) dX6_advance_149 rfl ?_
      refine zr_if_eq C0 (tgt := 208) dX6_advance_152 (by decide) (fun c13 => ?_) (fun c13 => ?_)
      · have hf := zif_t c13 hf
        exact w_X6_advance_l208 C0 _ _ _ hf
      · have hf := zif_f c13 hf
        refine zr_aload_n C0 dX6_advance_155 rfl 0 rfl ?_
        obtain ⟨x14, e15, hf⟩ := zbind hf
        refine zr_get C0 fl_X6_313_X6 dX6_advance_156 (zgI e15) ?_
        refine zr_aload_n C0 dX6_advance_159 rfl 0 rfl ?_
        obtain ⟨x16, e17, hf⟩ := zbind hf
        refine zr_get C0 fl_X6_319_X6 dX6_advance_160 (zgI e17) ?_
        refine zr_isub C0 dX6_advance_163 ?_
        refine zr_bipush C0 (v := 10) dX6_advance_164 (by decide) ?_
        refine zr_icmp_ge C0 (tgt := 195) dX6_advance_166 (by decide) (fun c18 => ?_) (fun c18 => ?_)
        · have hf := zif_t c18 hf
          exact w_X6_advance_b195 C0 ih hf
        · have hf := zif_f c18 hf
          refine zr_aload_n C0 dX6_advance_169 rfl 0 rfl ?_
          refine zr_aload_n C0 dX6_advance_170 rfl 0 rfl ?_
          obtain ⟨x19, e20, hf⟩ := zbind hf
          refine zr_get C0 fl_X6_322_X6 dX6_advance_171 (zgL e20) ?_
          refine zr_ldc2 C0 (v := 32) q3049 dX6_advance_174 ?_
          refine zr_lmul C0 dX6_advance_177 ?_
          refine zr_aload_n C0 dX6_advance_178 rfl 0 rfl ?_
          refine zr_aload_n C0 dX6_advance_179 rfl 0 rfl ?_
          obtain ⟨x21, e22, hf⟩ := zbind hf
          refine zr_get C0 fl_X6_313_X6 dX6_advance_180 (zgI e22) ?_
          obtain ⟨_, e23, hf⟩ := zbind hf
          obtain ⟨x26, h24, e25, hf⟩ := zbind2 hf
          refine zr_callV_r C0 cv_X6_316_X6 rfl (zcko e23) (m_X6_byteAt C0.2.2.2.2.2.2.1 e25) (by decide) (by decide) rfl rfl (Nat.le_of_ble_eq_true rfl) dX6_advance_183 rfl ?_
          refine zr_i2l C0 dX6_advance_186 ?_
          refine zr_ladd C0 dX6_advance_187 ?_
          refine zr_ldc2 C0 (v := 96) q3048 dX6_advance_188 ?_
          refine zr_lsub C0 dX6_advance_191 ?_
          obtain ⟨h27, e28, hf⟩ := zbind hf
          refine zr_put C0 pl_X6_322_X6 dX6_advance_192 (fun h => by cases h) rfl rfl e28 ?_
          exact w_X6_advance_b195 C0 ih hf
def f_X6_advance_b123 (E : zE) (p0 : Nat) (h : zH) : Option (Unit × zH) :=
  (gI h p0 1 10).bind fun x1 =>
  (pF h p0 1 10 (.int (x1 + (1 : Int32)))).bind fun h3 =>
  f_X6_advance_l133 E E.1 p0 h3
theorem w_X6_advance_b123 (C0 : zCx p l e R s m args below meth c D B0 2 "FranchiseLedgerModel" cX6_advance E 3 105 (Option.none : Option Jvm.ClassFile.FieldType) "advance") {r : Unit} {h' : zH} {p0 : Nat} {h : zH} (hf : f_X6_advance_b123 E p0 h = some (r, h')) : zW p l e R s m args below meth c D B0 2 (zEnd D B0 R below args s (zoV r) h') h 123 [(0, .ref p0)] [] := by
  unfold f_X6_advance_b123 at hf
  refine zr_aload_n C0 dX6_advance_123 rfl 0 rfl ?_
  refine zr_dup C0 dX6_advance_124 rfl ?_
  obtain ⟨x1, e2, hf⟩ := zbind hf
  refine zr_get C0 fl_X6_313_X6 dX6_advance_125 (zgI e2) ?_
  refine zr_iconst C0 (v := 1) dX6_advance_128 (by decide) ?_
  refine zr_iadd C0 dX6_advance_129 ?_
  obtain ⟨h3, e4, hf⟩ := zbind hf
  refine zr_put C0 pl_X6_313_X6 dX6_advance_130 (fun h => by cases h) rfl rfl e4 ?_
  exact w_X6_advance_l133 C0 _ _ _ hf
def f_X6_advance_b104 (E : zE) (p0 : Nat) (s0 : Nat) (s1 : Int32) (h : zH) : Option (Unit × zH) :=
  (pF h s0 1 13 (.int s1)).bind fun h1 =>
  (gI h1 p0 1 13).bind fun x3 =>
  if x3 = (3 : Int32) then (
    f_X6_advance_b123 E p0 h1
  ) else (
    (gI h1 p0 1 13).bind fun x6 =>
    if x6 = (4 : Int32) then (
      f_X6_advance_b123 E p0 h1
    ) else (
      f_X6_advance_l133 E E.1 p0 h1
    )
  )
theorem w_X6_advance_b104 (C0 : zCx p l e R s m args below meth c D B0 2 "FranchiseLedgerModel" cX6_advance E 3 105 (Option.none : Option Jvm.ClassFile.FieldType) "advance") {r : Unit} {h' : zH} {p0 : Nat} {s0 : Nat} {s1 : Int32} {h : zH} (hf : f_X6_advance_b104 E p0 s0 s1 h = some (r, h')) : zW p l e R s m args below meth c D B0 2 (zEnd D B0 R below args s (zoV r) h') h 104 [(0, .ref p0)] [.int s1, .ref s0] := by
  unfold f_X6_advance_b104 at hf
  obtain ⟨h1, e2, hf⟩ := zbind hf
  refine zr_put C0 pl_X6_332_X6 dX6_advance_104 (fun h => by cases h) rfl rfl e2 ?_
  refine zr_aload_n C0 dX6_advance_107 rfl 0 rfl ?_
  obtain ⟨x3, e4, hf⟩ := zbind hf
  refine zr_get C0 fl_X6_332_X6 dX6_advance_108 (zgI e4) ?_
  refine zr_iconst C0 (v := 3) dX6_advance_111 (by decide) ?_
  refine zr_icmp_eq C0 (tgt := 123) dX6_advance_112 (by decide) (fun c5 => ?_) (fun c5 => ?_)
  · have hf := zif_t c5 hf
    exact w_X6_advance_b123 C0 hf
  · have hf := zif_f c5 hf
    refine zr_aload_n C0 dX6_advance_115 rfl 0 rfl ?_
    obtain ⟨x6, e7, hf⟩ := zbind hf
    refine zr_get C0 fl_X6_332_X6 dX6_advance_116 (zgI e7) ?_
    refine zr_iconst C0 (v := 4) dX6_advance_119 (by decide) ?_
    refine zr_icmp_ne C0 (tgt := 133) dX6_advance_120 (by decide) (fun c8 => ?_) (fun c8 => ?_)
    · have hf := zif_f c8 hf
      exact w_X6_advance_l133 C0 _ _ _ hf
    · have hf := zif_t c8 hf
      exact w_X6_advance_b123 C0 hf
def f_X6_advance_l0 (E : zE) : Nat → Nat → zH → Option (Unit × zH)
  | 0, _, _ => none
  | n + 1, p0, h =>
    (gI h p0 1 10).bind fun x1 =>
    (cko h p0 1).bind fun _ =>
    bnd2 (f_X6_byteAt E p0 x1 h) fun x6 h4 =>
    if x6 = (32 : Int32) then (
      f_X6_advance_b26 E (f_X6_advance_l0 E n) p0 h4
    ) else (
      (gI h4 p0 1 10).bind fun x8 =>
      (cko h4 p0 1).bind fun _ =>
      bnd2 (f_X6_byteAt E p0 x8 h4) fun x13 h11 =>
      if x13 = (10 : Int32) then (
        f_X6_advance_b26 E (f_X6_advance_l0 E n) p0 h11
      ) else (
        (gI h11 p0 1 10).bind fun x15 =>
        (pF h11 p0 1 14 (.int x15)).bind fun h17 =>
        (pF h17 p0 1 16 (.long (0 : Int64))).bind fun h19 =>
        (gI h19 p0 1 14).bind fun x21 =>
        (cko h19 p0 1).bind fun _ =>
        bnd2 (f_X6_byteAt E p0 x21 h19) fun x26 h24 =>
        if x26 = (-1 : Int32) then (
          f_X6_advance_b104 E p0 p0 (0 : Int32) h24
        ) else (
          bnd2 (f_X6_isLetter E x26 h24) fun x30 h28 =>
          if x30 = 0 then (
            bnd2 (f_X6_isDigit E x26 h28) fun x34 h32 =>
            if x34 = 0 then (
              if x26 = (59 : Int32) then (
                f_X6_advance_b104 E p0 p0 (3 : Int32) h32
              ) else (
                f_X6_advance_b104 E p0 p0 (4 : Int32) h32
              )
            ) else (
              f_X6_advance_b104 E p0 p0 (2 : Int32) h32
            )
          ) else (
            f_X6_advance_b104 E p0 p0 (1 : Int32) h28
          )
        )
      )
    )
theorem w_X6_advance_l0 (C0 : zCx p l e R s m args below meth c D B0 2 "FranchiseLedgerModel" cX6_advance E 3 105 (Option.none : Option Jvm.ClassFile.FieldType) "advance") {r : Unit} {h' : zH} : ∀ (n : Nat) (p0 : Nat) (h : zH), f_X6_advance_l0 E n p0 h = some (r, h') → zW p l e R s m args below meth c D B0 2 (zEnd D B0 R below args s (zoV r) h') h 0 [(0, .ref p0)] [] := by
  intro n
  induction n with
  | zero =>
    intro p0 h hf
    unfold f_X6_advance_l0 at hf
    cases hf
  | succ n ih =>
    intro p0 h hf
    unfold f_X6_advance_l0 at hf
    refine zr_aload_n C0 dX6_advance_0 rfl 0 rfl ?_
    refine zr_aload_n C0 dX6_advance_1 rfl 0 rfl ?_
    obtain ⟨x1, e2, hf⟩ := zbind hf
    refine zr_get C0 fl_X6_313_X6 dX6_advance_2 (zgI e2) ?_
    obtain ⟨_, e3, hf⟩ := zbind hf
    obtain ⟨x6, h4, e5, hf⟩ := zbind2 hf
    refine zr_callV_r C0 cv_X6_316_X6 rfl (zcko e3) (m_X6_byteAt C0.2.2.2.2.2.2.1 e5) (by decide) (by decide) rfl rfl (Nat.le_of_ble_eq_true rfl) dX6_advance_5 rfl ?_
    refine zr_bipush C0 (v := 32) dX6_advance_8 (by decide) ?_
    refine zr_icmp_eq C0 (tgt := 26) dX6_advance_10 (by decide) (fun c7 => ?_) (fun c7 => ?_)
    · have hf := zif_t c7 hf
      exact w_X6_advance_b26 C0 ih hf
    · have hf := zif_f c7 hf
      refine zr_aload_n C0 dX6_advance_13 rfl 0 rfl ?_
      refine zr_aload_n C0 dX6_advance_14 rfl 0 rfl ?_
      obtain ⟨x8, e9, hf⟩ := zbind hf
      refine zr_get C0 fl_X6_313_X6 dX6_advance_15 (zgI e9) ?_
      obtain ⟨_, e10, hf⟩ := zbind hf
      obtain ⟨x13, h11, e12, hf⟩ := zbind2 hf
      refine zr_callV_r C0 cv_X6_316_X6 rfl (zcko e10) (m_X6_byteAt C0.2.2.2.2.2.2.1 e12) (by decide) (by decide) rfl rfl (Nat.le_of_ble_eq_true rfl) dX6_advance_18 rfl ?_
      refine zr_bipush C0 (v := 10) dX6_advance_21 (by decide) ?_
      refine zr_icmp_ne C0 (tgt := 39) dX6_advance_23 (by decide) (fun c14 => ?_) (fun c14 => ?_)
      · have hf := zif_f c14 hf
        refine zr_aload_n C0 dX6_advance_39 rfl 0 rfl ?_
        refine zr_aload_n C0 dX6_advance_40 rfl 0 rfl ?_
        obtain ⟨x15, e16, hf⟩ := zbind hf
        refine zr_get C0 fl_X6_313_X6 dX6_advance_41 (zgI e16) ?_
        obtain ⟨h17, e18, hf⟩ := zbind hf
        refine zr_put C0 pl_X6_319_X6 dX6_advance_44 (fun h => by cases h) rfl rfl e18 ?_
        refine zr_aload_n C0 dX6_advance_47 rfl 0 rfl ?_
        refine zr_lconst C0 (v := 0) dX6_advance_48 (by decide) ?_
        obtain ⟨h19, e20, hf⟩ := zbind hf
        refine zr_put C0 pl_X6_322_X6 dX6_advance_49 (fun h => by cases h) rfl rfl e20 ?_
        refine zr_aload_n C0 dX6_advance_52 rfl 0 rfl ?_
        refine zr_aload_n C0 dX6_advance_53 rfl 0 rfl ?_
        obtain ⟨x21, e22, hf⟩ := zbind hf
        refine zr_get C0 fl_X6_319_X6 dX6_advance_54 (zgI e22) ?_
        obtain ⟨_, e23, hf⟩ := zbind hf
        obtain ⟨x26, h24, e25, hf⟩ := zbind2 hf
        refine zr_callV_r C0 cv_X6_316_X6 rfl (zcko e23) (m_X6_byteAt C0.2.2.2.2.2.2.1 e25) (by decide) (by decide) rfl rfl (Nat.le_of_ble_eq_true rfl) dX6_advance_57 rfl ?_
        refine zr_istore_n (i := 1) (lv' := [(1, .int x26), (0, .ref p0)]) C0 dX6_advance_60 rfl (by decide) (by first | rfl | simp [zst1, zst2, zcat_rf]) ?_
        refine zr_aload_n C0 dX6_advance_61 rfl 1 rfl ?_
        refine zr_iload_n C0 dX6_advance_62 rfl 0 rfl ?_
        refine zr_iconst C0 (v := -1) dX6_advance_63 (by decide) ?_
        refine zr_icmp_ne C0 (tgt := 71) dX6_advance_64 (by decide) (fun c27 => ?_) (fun c27 => ?_)
        · have hf := zif_f c27 hf
          refine zr_iload_n C0 dX6_advance_71 rfl 0 rfl ?_
          obtain ⟨x30, h28, e29, hf⟩ := zbind2 hf
          refine zr_callS_r C0 cv_X6_326 (m_X6_isLetter C0.2.2.2.2.2.2.1 e29) (by decide) (by decide) rfl rfl (Nat.le_of_ble_eq_true rfl) dX6_advance_72 rfl ?_
          refine zr_if_eq C0 (tgt := 82) dX6_advance_75 (by decide) (fun c31 => ?_) (fun c31 => ?_)
          · have hf := zif_t c31 hf
            refine zr_iload_n C0 dX6_advance_82 rfl 0 rfl ?_
            obtain ⟨x34, h32, e33, hf⟩ := zbind2 hf
            refine zr_callS_r C0 cv_X6_329 (m_X6_isDigit C0.2.2.2.2.2.2.1 e33) (by decide) (by decide) rfl rfl (Nat.le_of_ble_eq_true rfl) dX6_advance_83 rfl ?_
            refine zr_if_eq C0 (tgt := 93) dX6_advance_86 (by decide) (fun c35 => ?_) (fun c35 => ?_)
            · have hf := zif_t c35 hf
              refine zr_iload_n C0 dX6_advance_93 rfl 0 rfl ?_
              refine zr_bipush C0 (v := 59) dX6_advance_94 (by decide) ?_
              refine zr_icmp_ne C0 (tgt := 103) dX6_advance_96 (by decide) (fun c36 => ?_) (fun c36 => ?_)
              · have hf := zif_f c36 hf
                refine zr_iconst C0 (v := 4) dX6_advance_103 (by decide) ?_
                refine zr_sub [1] rfl ?_
                exact w_X6_advance_b104 C0 hf
              · have hf := zif_t c36 hf
                refine zr_iconst C0 (v := 3) dX6_advance_99 (by decide) ?_
                refine zr_goto C0 (tgt := 104) dX6_advance_100 (by decide) ?_
                refine zr_sub [1] rfl ?_
                exact w_X6_advance_b104 C0 hf
            · have hf := zif_f c35 hf
              refine zr_iconst C0 (v := 2) dX6_advance_89 (by decide) ?_
              refine zr_goto C0 (tgt := 104) dX6_advance_90 (by decide) ?_
              refine zr_sub [1] rfl ?_
              exact w_X6_advance_b104 C0 hf
          · have hf := zif_f c31 hf
            refine zr_iconst C0 (v := 1) dX6_advance_78 (by decide) ?_
            refine zr_goto C0 (tgt := 104) dX6_advance_79 (by decide) ?_
            refine zr_sub [1] rfl ?_
            exact w_X6_advance_b104 C0 hf
        · have hf := zif_t c27 hf
          refine zr_iconst C0 (v := 0) dX6_advance_67 (by decide) ?_
          refine zr_goto C0 (tgt := 104) dX6_advance_68 (by decide) ?_
          refine zr_sub [1] rfl ?_
          exact w_X6_advance_b104 C0 hf
      · have hf := zif_t c14 hf
        exact w_X6_advance_b26 C0 ih hf
def f_X6_advance (E : zE) (p0 : Nat) (h : zH) : Option (Unit × zH) := f_X6_advance_l0 E E.1 p0 h
theorem m_X6_advance {l : Launch} (hst : l.stackTraces = false) {D : zD} {B0 : Nat} {E : zE} {p0 : Nat} {h h' : zH} {r : Unit} (hf : f_X6_advance E p0 h = some (r, h')) : zMet l yX6_advance (ws_ yX6_advance cX6_advance 2 (Option.none : Option Jvm.ClassFile.FieldType)) 3 105 D B0 E [.ref p0] h (zoV r) h' := by
  unfold f_X6_advance at hf
  refine zMet_of hst (by decide +kernel) rfl rfl (Nat.le_of_ble_eq_true rfl) (fun p e R s m below meth c C0 hno => ?_)
  show zW _ _ _ _ _ _ _ _ _ _ _ _ _ _ _ _ [(0, .ref p0)] []
  exact w_X6_advance_l0 C0 _ _ _ hf
def f_X6_beginText_b0 (E : zE) (p0 : Nat) (h : zH) : Option (Unit × zH) :=
  (pF h p0 1 11 (.int (0 : Int32))).bind fun h1 =>
  (pF h1 p0 1 12 (.int (-1 : Int32))).bind fun h3 =>
  (pF h3 p0 1 10 (.int (0 : Int32))).bind fun h5 =>
  (cko h5 p0 1).bind fun _ =>
  bnd2 (f_X6_advance E p0 h5) fun x10 h8 =>
  some ((), h8)
theorem w_X6_beginText_b0 (C0 : zCx p l e R s m args below meth c D B0 1 "FranchiseLedgerModel" cX6_beginText E 4 126 (Option.none : Option Jvm.ClassFile.FieldType) "beginText") {r : Unit} {h' : zH} {p0 : Nat} {h : zH} (hf : f_X6_beginText_b0 E p0 h = some (r, h')) : zW p l e R s m args below meth c D B0 1 (zEnd D B0 R below args s (zoV r) h') h 0 [(0, .ref p0)] [] := by
  unfold f_X6_beginText_b0 at hf
  refine zr_aload_n C0 dX6_beginText_0 rfl 0 rfl ?_
  refine zr_iconst C0 (v := 0) dX6_beginText_1 (by decide) ?_
  obtain ⟨h1, e2, hf⟩ := zbind hf
  refine zr_put C0 pl_X6_302_X6 dX6_beginText_2 (fun h => by cases h) rfl rfl e2 ?_
  refine zr_aload_n C0 dX6_beginText_5 rfl 0 rfl ?_
  refine zr_iconst C0 (v := -1) dX6_beginText_6 (by decide) ?_
  obtain ⟨h3, e4, hf⟩ := zbind hf
  refine zr_put C0 pl_X6_33_X6 dX6_beginText_7 (fun h => by cases h) rfl rfl e4 ?_
  refine zr_aload_n C0 dX6_beginText_10 rfl 0 rfl ?_
  refine zr_iconst C0 (v := 0) dX6_beginText_11 (by decide) ?_
  obtain ⟨h5, e6, hf⟩ := zbind hf
  refine zr_put C0 pl_X6_313_X6 dX6_beginText_12 (fun h => by cases h) rfl rfl e6 ?_
  refine zr_aload_n C0 dX6_beginText_15 rfl 0 rfl ?_
  obtain ⟨_, e7, hf⟩ := zbind hf
  obtain ⟨x10, h8, e9, hf⟩ := zbind2 hf
  refine zr_callV_r C0 cv_X6_345_X6 rfl (zcko e7) (m_X6_advance C0.2.2.2.2.2.2.1 e9) (by decide) (by decide) rfl rfl (Nat.le_of_ble_eq_true rfl) dX6_beginText_16 rfl ?_
  refine zretW hf ?_
  exact zr_vret C0 rfl dX6_beginText_19 rfl
def f_X6_beginText (E : zE) (p0 : Nat) (h : zH) : Option (Unit × zH) := f_X6_beginText_b0 E p0 h
theorem m_X6_beginText {l : Launch} (hst : l.stackTraces = false) {D : zD} {B0 : Nat} {E : zE} {p0 : Nat} {h h' : zH} {r : Unit} (hf : f_X6_beginText E p0 h = some (r, h')) : zMet l yX6_beginText (ws_ yX6_beginText cX6_beginText 1 (Option.none : Option Jvm.ClassFile.FieldType)) 4 126 D B0 E [.ref p0] h (zoV r) h' := by
  unfold f_X6_beginText at hf
  refine zMet_of hst (by decide +kernel) rfl rfl (Nat.le_of_ble_eq_true rfl) (fun p e R s m below meth c C0 hno => ?_)
  show zW _ _ _ _ _ _ _ _ _ _ _ _ _ _ _ _ [(0, .ref p0)] []
  exact w_X6_beginText_b0 C0 hf
def f_X6_statement_b301 (E : zE) (s0 : Int32) (h : zH) : Option (Int32 × zH) :=
  some (s0, h)
theorem w_X6_statement_b301 (C0 : zCx p l e R s m args below meth c D B0 1 "FranchiseLedgerModel" cX6_statement E 2 86 (Option.some Jvm.ClassFile.FieldType.int) "statement") {r : Int32} {h' : zH} {s0 : Int32} {h : zH} (hf : f_X6_statement_b301 E s0 h = some (r, h')) : zW p l e R s m args below meth c D B0 1 (zEnd D B0 R below args s (zoI r) h') h 301 [] [.int s0] := by
  unfold f_X6_statement_b301 at hf
  refine zretW hf ?_
  exact zr_iret C0 (ty := .int) rfl rfl dX6_statement_301 rfl
def f_X6_statement_b0 (E : zE) (p0 : Nat) (h : zH) : Option (Int32 × zH) :=
  (gI h p0 1 13).bind fun x1 =>
  if x1 = (1 : Int32) then (
    (gL h p0 1 16).bind fun x4 =>
    bnd2 (f_X6_pack E (112 : Int32) (108 : Int32) (97 : Int32) (110 : Int32) (0 : Int32) h) fun x8 h6 =>
    if x4 = x8 then (
      some ((0 : Int32), h6)
    ) else (
      (gL h6 p0 1 16).bind fun x10 =>
      bnd2 (f_X6_pack E (102 : Int32) (114 : Int32) (97 : Int32) (110 : Int32) (99 : Int32) h6) fun x14 h12 =>
      bnd2 (f_X6_pack E (104 : Int32) (105 : Int32) (115 : Int32) (101 : Int32) (101 : Int32) h12) fun x17 h15 =>
      if x10 = ((x14 * (33554432 : Int64)) + x17) then (
        some ((1 : Int32), h15)
      ) else (
        (gL h15 p0 1 16).bind fun x19 =>
        bnd2 (f_X6_pack E (97 : Int32) (114 : Int32) (101 : Int32) (97 : Int32) (0 : Int32) h15) fun x23 h21 =>
        if x19 = x23 then (
          some ((2 : Int32), h21)
        ) else (
          (gL h21 p0 1 16).bind fun x25 =>
          bnd2 (f_X6_pack E (111 : Int32) (117 : Int32) (116 : Int32) (108 : Int32) (101 : Int32) h21) fun x29 h27 =>
          if x25 = (((x29 * (32 : Int64)) + (116 : Int64)) - (96 : Int64)) then (
            some ((3 : Int32), h27)
          ) else (
            (gL h27 p0 1 16).bind fun x31 =>
            bnd2 (f_X6_pack E (99 : Int32) (114 : Int32) (101 : Int32) (100 : Int32) (105 : Int32) h27) fun x35 h33 =>
            if x31 = (((x35 * (32 : Int64)) + (116 : Int64)) - (96 : Int64)) then (
              some ((4 : Int32), h33)
            ) else (
              (gL h33 p0 1 16).bind fun x37 =>
              bnd2 (f_X6_pack E (105 : Int32) (110 : Int32) (116 : Int32) (101 : Int32) (114 : Int32) h33) fun x41 h39 =>
              bnd2 (f_X6_pack E (101 : Int32) (115 : Int32) (116 : Int32) (0 : Int32) (0 : Int32) h39) fun x44 h42 =>
              if x37 = ((x41 * (32768 : Int64)) + x44) then (
                some ((5 : Int32), h42)
              ) else (
                (gL h42 p0 1 16).bind fun x46 =>
                bnd2 (f_X6_pack E (97 : Int32) (100 : Int32) (109 : Int32) (105 : Int32) (110 : Int32) h42) fun x50 h48 =>
                if x46 = x50 then (
                  some ((6 : Int32), h48)
                ) else (
                  (gL h48 p0 1 16).bind fun x52 =>
                  bnd2 (f_X6_pack E (102 : Int32) (101 : Int32) (101 : Int32) (0 : Int32) (0 : Int32) h48) fun x56 h54 =>
                  if x52 = x56 then (
                    some ((7 : Int32), h54)
                  ) else (
                    (gL h54 p0 1 16).bind fun x58 =>
                    bnd2 (f_X6_pack E (100 : Int32) (101 : Int32) (108 : Int32) (97 : Int32) (121 : Int32) h54) fun x62 h60 =>
                    if x58 = x62 then (
                      some ((8 : Int32), h60)
                    ) else (
                      (gL h60 p0 1 16).bind fun x64 =>
                      bnd2 (f_X6_pack E (119 : Int32) (111 : Int32) (114 : Int32) (116 : Int32) (104 : Int32) h60) fun x68 h66 =>
                      if x64 = x68 then (
                        f_X6_statement_b301 E (9 : Int32) h66
                      ) else (
                        f_X6_statement_b301 E (-1 : Int32) h66
                      )
                    )
                  )
                )
              )
            )
          )
        )
      )
    )
  ) else (
    some ((-1 : Int32), h)
  )
theorem w_X6_statement_b0 (C0 : zCx p l e R s m args below meth c D B0 1 "FranchiseLedgerModel" cX6_statement E 2 86 (Option.some Jvm.ClassFile.FieldType.int) "statement") {r : Int32} {h' : zH} {p0 : Nat} {h : zH} (hf : f_X6_statement_b0 E p0 h = some (r, h')) : zW p l e R s m args below meth c D B0 1 (zEnd D B0 R below args s (zoI r) h') h 0 [(0, .ref p0)] [] := by
  unfold f_X6_statement_b0 at hf
  refine zr_aload_n C0 dX6_statement_0 rfl 0 rfl ?_
  obtain ⟨x1, e2, hf⟩ := zbind hf
  refine zr_get C0 fl_X6_332_X6 dX6_statement_1 (zgI e2) ?_
  refine zr_iconst C0 (v := 1) dX6_statement_4 (by decide) ?_
  refine zr_icmp_eq C0 (tgt := 10) dX6_statement_5 (by decide) (fun c3 => ?_) (fun c3 => ?_)
  · have hf := zif_t c3 hf
    refine zr_aload_n C0 dX6_statement_10 rfl 0 rfl ?_
    obtain ⟨x4, e5, hf⟩ := zbind hf
    refine zr_get C0 fl_X6_322_X6 dX6_statement_11 (zgL e5) ?_
    refine zr_bipush C0 (v := 112) dX6_statement_14 (by decide) ?_
    refine zr_bipush C0 (v := 108) dX6_statement_16 (by decide) ?_
    refine zr_bipush C0 (v := 97) dX6_statement_18 (by decide) ?_
    refine zr_bipush C0 (v := 110) dX6_statement_20 (by decide) ?_
    refine zr_iconst C0 (v := 0) dX6_statement_22 (by decide) ?_
    obtain ⟨x8, h6, e7, hf⟩ := zbind2 hf
    refine zr_callS_r C0 cv_X6_278 (m_X6_pack C0.2.2.2.2.2.2.1 e7) (by decide) (by decide) rfl rfl (Nat.le_of_ble_eq_true rfl) dX6_statement_23 rfl ?_
    refine zr_lcmp C0 dX6_statement_26 ?_
    refine zr_if_ne C0 (tgt := 32) dX6_statement_27 (by decide) (fun c9 => ?_) (fun c9 => ?_)
    · have hf := zif_f (zl_ne.mp c9) hf
      refine zr_aload_n C0 dX6_statement_32 rfl 0 rfl ?_
      obtain ⟨x10, e11, hf⟩ := zbind hf
      refine zr_get C0 fl_X6_322_X6 dX6_statement_33 (zgL e11) ?_
      refine zr_bipush C0 (v := 102) dX6_statement_36 (by decide) ?_
      refine zr_bipush C0 (v := 114) dX6_statement_38 (by decide) ?_
      refine zr_bipush C0 (v := 97) dX6_statement_40 (by decide) ?_
      refine zr_bipush C0 (v := 110) dX6_statement_42 (by decide) ?_
      refine zr_bipush C0 (v := 99) dX6_statement_44 (by decide) ?_
      obtain ⟨x14, h12, e13, hf⟩ := zbind2 hf
      refine zr_callS_r C0 cv_X6_278 (m_X6_pack C0.2.2.2.2.2.2.1 e13) (by decide) (by decide) rfl rfl (Nat.le_of_ble_eq_true rfl) dX6_statement_46 rfl ?_
      refine zr_ldc2 C0 (v := 33554432) q3121 dX6_statement_49 ?_
      refine zr_lmul C0 dX6_statement_52 ?_
      refine zr_bipush C0 (v := 104) dX6_statement_53 (by decide) ?_
      refine zr_bipush C0 (v := 105) dX6_statement_55 (by decide) ?_
      refine zr_bipush C0 (v := 115) dX6_statement_57 (by decide) ?_
      refine zr_bipush C0 (v := 101) dX6_statement_59 (by decide) ?_
      refine zr_bipush C0 (v := 101) dX6_statement_61 (by decide) ?_
      obtain ⟨x17, h15, e16, hf⟩ := zbind2 hf
      refine zr_callS_r C0 cv_X6_278 (m_X6_pack C0.2.2.2.2.2.2.1 e16) (by decide) (by decide) rfl rfl (Nat.le_of_ble_eq_true rfl) dX6_statement_63 rfl ?_
      refine zr_ladd C0 dX6_statement_66 ?_
      refine zr_lcmp C0 dX6_statement_67 ?_
      refine zr_if_ne C0 (tgt := 73) dX6_statement_68 (by decide) (fun c18 => ?_) (fun c18 => ?_)
      · have hf := zif_f (zl_ne.mp c18) hf
        refine zr_aload_n C0 dX6_statement_73 rfl 0 rfl ?_
        obtain ⟨x19, e20, hf⟩ := zbind hf
        refine zr_get C0 fl_X6_322_X6 dX6_statement_74 (zgL e20) ?_
        refine zr_bipush C0 (v := 97) dX6_statement_77 (by decide) ?_
        refine zr_bipush C0 (v := 114) dX6_statement_79 (by decide) ?_
        refine zr_bipush C0 (v := 101) dX6_statement_81 (by decide) ?_
        refine zr_bipush C0 (v := 97) dX6_statement_83 (by decide) ?_
        refine zr_iconst C0 (v := 0) dX6_statement_85 (by decide) ?_
        obtain ⟨x23, h21, e22, hf⟩ := zbind2 hf
        refine zr_callS_r C0 cv_X6_278 (m_X6_pack C0.2.2.2.2.2.2.1 e22) (by decide) (by decide) rfl rfl (Nat.le_of_ble_eq_true rfl) dX6_statement_86 rfl ?_
        refine zr_lcmp C0 dX6_statement_89 ?_
        refine zr_if_ne C0 (tgt := 95) dX6_statement_90 (by decide) (fun c24 => ?_) (fun c24 => ?_)
        · have hf := zif_f (zl_ne.mp c24) hf
          refine zr_aload_n C0 dX6_statement_95 rfl 0 rfl ?_
          obtain ⟨x25, e26, hf⟩ := zbind hf
          refine zr_get C0 fl_X6_322_X6 dX6_statement_96 (zgL e26) ?_
          refine zr_bipush C0 (v := 111) dX6_statement_99 (by decide) ?_
          refine zr_bipush C0 (v := 117) dX6_statement_101 (by decide) ?_
          refine zr_bipush C0 (v := 116) dX6_statement_103 (by decide) ?_
          refine zr_bipush C0 (v := 108) dX6_statement_105 (by decide) ?_
          refine zr_bipush C0 (v := 101) dX6_statement_107 (by decide) ?_
          obtain ⟨x29, h27, e28, hf⟩ := zbind2 hf
          refine zr_callS_r C0 cv_X6_278 (m_X6_pack C0.2.2.2.2.2.2.1 e28) (by decide) (by decide) rfl rfl (Nat.le_of_ble_eq_true rfl) dX6_statement_109 rfl ?_
          refine zr_ldc2 C0 (v := 32) q3049 dX6_statement_112 ?_
          refine zr_lmul C0 dX6_statement_115 ?_
          refine zr_ldc2 C0 (v := 116) q3122 dX6_statement_116 ?_
          refine zr_ladd C0 dX6_statement_119 ?_
          refine zr_ldc2 C0 (v := 96) q3048 dX6_statement_120 ?_
          refine zr_lsub C0 dX6_statement_123 ?_
          refine zr_lcmp C0 dX6_statement_124 ?_
          refine zr_if_ne C0 (tgt := 130) dX6_statement_125 (by decide) (fun c30 => ?_) (fun c30 => ?_)
          · have hf := zif_f (zl_ne.mp c30) hf
            refine zr_aload_n C0 dX6_statement_130 rfl 0 rfl ?_
            obtain ⟨x31, e32, hf⟩ := zbind hf
            refine zr_get C0 fl_X6_322_X6 dX6_statement_131 (zgL e32) ?_
            refine zr_bipush C0 (v := 99) dX6_statement_134 (by decide) ?_
            refine zr_bipush C0 (v := 114) dX6_statement_136 (by decide) ?_
            refine zr_bipush C0 (v := 101) dX6_statement_138 (by decide) ?_
            refine zr_bipush C0 (v := 100) dX6_statement_140 (by decide) ?_
            refine zr_bipush C0 (v := 105) dX6_statement_142 (by decide) ?_
            obtain ⟨x35, h33, e34, hf⟩ := zbind2 hf
            refine zr_callS_r C0 cv_X6_278 (m_X6_pack C0.2.2.2.2.2.2.1 e34) (by decide) (by decide) rfl rfl (Nat.le_of_ble_eq_true rfl) dX6_statement_144 rfl ?_
            refine zr_ldc2 C0 (v := 32) q3049 dX6_statement_147 ?_
            refine zr_lmul C0 dX6_statement_150 ?_
            refine zr_ldc2 C0 (v := 116) q3122 dX6_statement_151 ?_
            refine zr_ladd C0 dX6_statement_154 ?_
            refine zr_ldc2 C0 (v := 96) q3048 dX6_statement_155 ?_
            refine zr_lsub C0 dX6_statement_158 ?_
            refine zr_lcmp C0 dX6_statement_159 ?_
            refine zr_if_ne C0 (tgt := 165) dX6_statement_160 (by decide) (fun c36 => ?_) (fun c36 => ?_)
            · have hf := zif_f (zl_ne.mp c36) hf
              refine zr_aload_n C0 dX6_statement_165 rfl 0 rfl ?_
              obtain ⟨x37, e38, hf⟩ := zbind hf
              refine zr_get C0 fl_X6_322_X6 dX6_statement_166 (zgL e38) ?_
              refine zr_bipush C0 (v := 105) dX6_statement_169 (by decide) ?_
              refine zr_bipush C0 (v := 110) dX6_statement_171 (by decide) ?_
              refine zr_bipush C0 (v := 116) dX6_statement_173 (by decide) ?_
              refine zr_bipush C0 (v := 101) dX6_statement_175 (by decide) ?_
              refine zr_bipush C0 (v := 114) dX6_statement_177 (by decide) ?_
              obtain ⟨x41, h39, e40, hf⟩ := zbind2 hf
              refine zr_callS_r C0 cv_X6_278 (m_X6_pack C0.2.2.2.2.2.2.1 e40) (by decide) (by decide) rfl rfl (Nat.le_of_ble_eq_true rfl) dX6_statement_179 rfl ?_
              refine zr_ldc2 C0 (v := 32768) q3051 dX6_statement_182 ?_
              refine zr_lmul C0 dX6_statement_185 ?_
              refine zr_bipush C0 (v := 101) dX6_statement_186 (by decide) ?_
              refine zr_bipush C0 (v := 115) dX6_statement_188 (by decide) ?_
              refine zr_bipush C0 (v := 116) dX6_statement_190 (by decide) ?_
              refine zr_iconst C0 (v := 0) dX6_statement_192 (by decide) ?_
              refine zr_iconst C0 (v := 0) dX6_statement_193 (by decide) ?_
              obtain ⟨x44, h42, e43, hf⟩ := zbind2 hf
              refine zr_callS_r C0 cv_X6_278 (m_X6_pack C0.2.2.2.2.2.2.1 e43) (by decide) (by decide) rfl rfl (Nat.le_of_ble_eq_true rfl) dX6_statement_194 rfl ?_
              refine zr_ladd C0 dX6_statement_197 ?_
              refine zr_lcmp C0 dX6_statement_198 ?_
              refine zr_if_ne C0 (tgt := 204) dX6_statement_199 (by decide) (fun c45 => ?_) (fun c45 => ?_)
              · have hf := zif_f (zl_ne.mp c45) hf
                refine zr_aload_n C0 dX6_statement_204 rfl 0 rfl ?_
                obtain ⟨x46, e47, hf⟩ := zbind hf
                refine zr_get C0 fl_X6_322_X6 dX6_statement_205 (zgL e47) ?_
                refine zr_bipush C0 (v := 97) dX6_statement_208 (by decide) ?_
                refine zr_bipush C0 (v := 100) dX6_statement_210 (by decide) ?_
                refine zr_bipush C0 (v := 109) dX6_statement_212 (by decide) ?_
                refine zr_bipush C0 (v := 105) dX6_statement_214 (by decide) ?_
                refine zr_bipush C0 (v := 110) dX6_statement_216 (by decide) ?_
                obtain ⟨x50, h48, e49, hf⟩ := zbind2 hf
                refine zr_callS_r C0 cv_X6_278 (m_X6_pack C0.2.2.2.2.2.2.1 e49) (by decide) (by decide) rfl rfl (Nat.le_of_ble_eq_true rfl) dX6_statement_218 rfl ?_
                refine zr_lcmp C0 dX6_statement_221 ?_
                refine zr_if_ne C0 (tgt := 228) dX6_statement_222 (by decide) (fun c51 => ?_) (fun c51 => ?_)
                · have hf := zif_f (zl_ne.mp c51) hf
                  refine zr_aload_n C0 dX6_statement_228 rfl 0 rfl ?_
                  obtain ⟨x52, e53, hf⟩ := zbind hf
                  refine zr_get C0 fl_X6_322_X6 dX6_statement_229 (zgL e53) ?_
                  refine zr_bipush C0 (v := 102) dX6_statement_232 (by decide) ?_
                  refine zr_bipush C0 (v := 101) dX6_statement_234 (by decide) ?_
                  refine zr_bipush C0 (v := 101) dX6_statement_236 (by decide) ?_
                  refine zr_iconst C0 (v := 0) dX6_statement_238 (by decide) ?_
                  refine zr_iconst C0 (v := 0) dX6_statement_239 (by decide) ?_
                  obtain ⟨x56, h54, e55, hf⟩ := zbind2 hf
                  refine zr_callS_r C0 cv_X6_278 (m_X6_pack C0.2.2.2.2.2.2.1 e55) (by decide) (by decide) rfl rfl (Nat.le_of_ble_eq_true rfl) dX6_statement_240 rfl ?_
                  refine zr_lcmp C0 dX6_statement_243 ?_
                  refine zr_if_ne C0 (tgt := 250) dX6_statement_244 (by decide) (fun c57 => ?_) (fun c57 => ?_)
                  · have hf := zif_f (zl_ne.mp c57) hf
                    refine zr_aload_n C0 dX6_statement_250 rfl 0 rfl ?_
                    obtain ⟨x58, e59, hf⟩ := zbind hf
                    refine zr_get C0 fl_X6_322_X6 dX6_statement_251 (zgL e59) ?_
                    refine zr_bipush C0 (v := 100) dX6_statement_254 (by decide) ?_
                    refine zr_bipush C0 (v := 101) dX6_statement_256 (by decide) ?_
                    refine zr_bipush C0 (v := 108) dX6_statement_258 (by decide) ?_
                    refine zr_bipush C0 (v := 97) dX6_statement_260 (by decide) ?_
                    refine zr_bipush C0 (v := 121) dX6_statement_262 (by decide) ?_
                    obtain ⟨x62, h60, e61, hf⟩ := zbind2 hf
                    refine zr_callS_r C0 cv_X6_278 (m_X6_pack C0.2.2.2.2.2.2.1 e61) (by decide) (by decide) rfl rfl (Nat.le_of_ble_eq_true rfl) dX6_statement_264 rfl ?_
                    refine zr_lcmp C0 dX6_statement_267 ?_
                    refine zr_if_ne C0 (tgt := 274) dX6_statement_268 (by decide) (fun c63 => ?_) (fun c63 => ?_)
                    · have hf := zif_f (zl_ne.mp c63) hf
                      refine zr_aload_n C0 dX6_statement_274 rfl 0 rfl ?_
                      obtain ⟨x64, e65, hf⟩ := zbind hf
                      refine zr_get C0 fl_X6_322_X6 dX6_statement_275 (zgL e65) ?_
                      refine zr_bipush C0 (v := 119) dX6_statement_278 (by decide) ?_
                      refine zr_bipush C0 (v := 111) dX6_statement_280 (by decide) ?_
                      refine zr_bipush C0 (v := 114) dX6_statement_282 (by decide) ?_
                      refine zr_bipush C0 (v := 116) dX6_statement_284 (by decide) ?_
                      refine zr_bipush C0 (v := 104) dX6_statement_286 (by decide) ?_
                      obtain ⟨x68, h66, e67, hf⟩ := zbind2 hf
                      refine zr_callS_r C0 cv_X6_278 (m_X6_pack C0.2.2.2.2.2.2.1 e67) (by decide) (by decide) rfl rfl (Nat.le_of_ble_eq_true rfl) dX6_statement_288 rfl ?_
                      refine zr_lcmp C0 dX6_statement_291 ?_
                      refine zr_if_ne C0 (tgt := 300) dX6_statement_292 (by decide) (fun c69 => ?_) (fun c69 => ?_)
                      · have hf := zif_f (zl_ne.mp c69) hf
                        refine zr_iconst C0 (v := -1) dX6_statement_300 (by decide) ?_
                        refine zr_sub [] rfl ?_
                        exact w_X6_statement_b301 C0 hf
                      · have hf := zif_t (zl_nen.mp c69) hf
                        refine zr_bipush C0 (v := 9) dX6_statement_295 (by decide) ?_
                        refine zr_goto C0 (tgt := 301) dX6_statement_297 (by decide) ?_
                        refine zr_sub [] rfl ?_
                        exact w_X6_statement_b301 C0 hf
                    · have hf := zif_t (zl_nen.mp c63) hf
                      refine zr_bipush C0 (v := 8) dX6_statement_271 (by decide) ?_
                      refine zretW hf ?_
                      exact zr_iret C0 (ty := .int) rfl rfl dX6_statement_273 rfl
                  · have hf := zif_t (zl_nen.mp c57) hf
                    refine zr_bipush C0 (v := 7) dX6_statement_247 (by decide) ?_
                    refine zretW hf ?_
                    exact zr_iret C0 (ty := .int) rfl rfl dX6_statement_249 rfl
                · have hf := zif_t (zl_nen.mp c51) hf
                  refine zr_bipush C0 (v := 6) dX6_statement_225 (by decide) ?_
                  refine zretW hf ?_
                  exact zr_iret C0 (ty := .int) rfl rfl dX6_statement_227 rfl
              · have hf := zif_t (zl_nen.mp c45) hf
                refine zr_iconst C0 (v := 5) dX6_statement_202 (by decide) ?_
                refine zretW hf ?_
                exact zr_iret C0 (ty := .int) rfl rfl dX6_statement_203 rfl
            · have hf := zif_t (zl_nen.mp c36) hf
              refine zr_iconst C0 (v := 4) dX6_statement_163 (by decide) ?_
              refine zretW hf ?_
              exact zr_iret C0 (ty := .int) rfl rfl dX6_statement_164 rfl
          · have hf := zif_t (zl_nen.mp c30) hf
            refine zr_iconst C0 (v := 3) dX6_statement_128 (by decide) ?_
            refine zretW hf ?_
            exact zr_iret C0 (ty := .int) rfl rfl dX6_statement_129 rfl
        · have hf := zif_t (zl_nen.mp c24) hf
          refine zr_iconst C0 (v := 2) dX6_statement_93 (by decide) ?_
          refine zretW hf ?_
          exact zr_iret C0 (ty := .int) rfl rfl dX6_statement_94 rfl
      · have hf := zif_t (zl_nen.mp c18) hf
        refine zr_iconst C0 (v := 1) dX6_statement_71 (by decide) ?_
        refine zretW hf ?_
        exact zr_iret C0 (ty := .int) rfl rfl dX6_statement_72 rfl
    · have hf := zif_t (zl_nen.mp c9) hf
      refine zr_iconst C0 (v := 0) dX6_statement_30 (by decide) ?_
      refine zretW hf ?_
      exact zr_iret C0 (ty := .int) rfl rfl dX6_statement_31 rfl
  · have hf := zif_f c3 hf
    refine zr_iconst C0 (v := -1) dX6_statement_8 (by decide) ?_
    refine zretW hf ?_
    exact zr_iret C0 (ty := .int) rfl rfl dX6_statement_9 rfl
def f_X6_statement (E : zE) (p0 : Nat) (h : zH) : Option (Int32 × zH) := f_X6_statement_b0 E p0 h
theorem m_X6_statement {l : Launch} (hst : l.stackTraces = false) {D : zD} {B0 : Nat} {E : zE} {p0 : Nat} {h h' : zH} {r : Int32} (hf : f_X6_statement E p0 h = some (r, h')) : zMet l yX6_statement (ws_ yX6_statement cX6_statement 1 (Option.some Jvm.ClassFile.FieldType.int)) 2 86 D B0 E [.ref p0] h (zoI r) h' := by
  unfold f_X6_statement at hf
  refine zMet_of hst (by decide +kernel) rfl rfl (Nat.le_of_ble_eq_true rfl) (fun p e R s m below meth c C0 hno => ?_)
  show zW _ _ _ _ _ _ _ _ _ _ _ _ _ _ _ _ [(0, .ref p0)] []
  exact w_X6_statement_b0 C0 hf
def f_X6_fail_b0 (E : zE) (p0 : Nat) (p1 : Int32) (h : zH) : Option (Int32 × zH) :=
  (pF h p0 1 11 (.int p1)).bind fun h1 =>
  (gI h1 p0 1 14).bind fun x3 =>
  (pF h1 p0 1 12 (.int x3)).bind fun h5 =>
  some ((0 : Int32), h5)
theorem w_X6_fail_b0 (C0 : zCx p l e R s m args below meth c D B0 2 "FranchiseLedgerModel" cX6_fail E 1 60 (Option.some Jvm.ClassFile.FieldType.boolean) "fail") {r : Int32} {h' : zH} {p0 : Nat} {p1 : Int32} {h : zH} (hf : f_X6_fail_b0 E p0 p1 h = some (r, h')) : zW p l e R s m args below meth c D B0 2 (zEnd D B0 R below args s (zoI r) h') h 0 [(0, .ref p0), (1, .int p1)] [] := by
  unfold f_X6_fail_b0 at hf
  refine zr_aload_n C0 dX6_fail_0 rfl 0 rfl ?_
  refine zr_iload_n C0 dX6_fail_1 rfl 1 rfl ?_
  obtain ⟨h1, e2, hf⟩ := zbind hf
  refine zr_put C0 pl_X6_302_X6 dX6_fail_2 (fun h => by cases h) rfl rfl e2 ?_
  refine zr_aload_n C0 dX6_fail_5 rfl 0 rfl ?_
  refine zr_aload_n C0 dX6_fail_6 rfl 0 rfl ?_
  obtain ⟨x3, e4, hf⟩ := zbind hf
  refine zr_get C0 fl_X6_319_X6 dX6_fail_7 (zgI e4) ?_
  obtain ⟨h5, e6, hf⟩ := zbind hf
  refine zr_put C0 pl_X6_33_X6 dX6_fail_10 (fun h => by cases h) rfl rfl e6 ?_
  refine zr_iconst C0 (v := 0) dX6_fail_13 (by decide) ?_
  refine zretW hf ?_
  exact zr_iret C0 (ty := .boolean) rfl (by decide) dX6_fail_14 rfl
def f_X6_fail (E : zE) (p0 : Nat) (p1 : Int32) (h : zH) : Option (Int32 × zH) := f_X6_fail_b0 E p0 p1 h
theorem m_X6_fail {l : Launch} (hst : l.stackTraces = false) {D : zD} {B0 : Nat} {E : zE} {p0 : Nat} {p1 : Int32} {h h' : zH} {r : Int32} (hf : f_X6_fail E p0 p1 h = some (r, h')) : zMet l yX6_fail (ws_ yX6_fail cX6_fail 2 (Option.some Jvm.ClassFile.FieldType.boolean)) 1 60 D B0 E [.ref p0, .int p1] h (zoI r) h' := by
  unfold f_X6_fail at hf
  refine zMet_of hst (by decide +kernel) rfl rfl (Nat.le_of_ble_eq_true rfl) (fun p e R s m below meth c C0 hno => ?_)
  show zW _ _ _ _ _ _ _ _ _ _ _ _ _ _ _ _ [(0, .ref p0), (1, .int p1)] []
  exact w_X6_fail_b0 C0 hf
def f_X6_readNumber_b0 (E : zE) (p0 : Nat) (p1 : Int32) (p2 : Int32) (h : zH) : Option (Int32 × zH) :=
  (gI h p0 1 13).bind fun x1 =>
  if x1 = (2 : Int32) then (
    (gL h p0 1 16).bind fun x4 =>
    bnd2 (f_X6_inRange E x4 (p1.toInt64) (p2.toInt64) h) fun x8 h6 =>
    if x8 = 0 then (
      (cko h6 p0 1).bind fun _ =>
      bnd2 (f_X6_fail E p0 (2 : Int32) h6) fun x21 h19 =>
      (zgd .boolean x21).bind fun _ =>
      some (x21, h19)
    ) else (
      (gL h6 p0 1 16).bind fun x10 =>
      (pF h6 p0 1 15 (.int (x10.toInt32))).bind fun h12 =>
      (cko h12 p0 1).bind fun _ =>
      bnd2 (f_X6_advance E p0 h12) fun x17 h15 =>
      some ((1 : Int32), h15)
    )
  ) else (
    (cko h p0 1).bind fun _ =>
    bnd2 (f_X6_fail E p0 (1 : Int32) h) fun x26 h24 =>
    (zgd .boolean x26).bind fun _ =>
    some (x26, h24)
  )
theorem w_X6_readNumber_b0 (C0 : zCx p l e R s m args below meth c D B0 3 "FranchiseLedgerModel" cX6_readNumber E 4 126 (Option.some Jvm.ClassFile.FieldType.boolean) "readNumber") {r : Int32} {h' : zH} {p0 : Nat} {p1 : Int32} {p2 : Int32} {h : zH} (hf : f_X6_readNumber_b0 E p0 p1 p2 h = some (r, h')) : zW p l e R s m args below meth c D B0 3 (zEnd D B0 R below args s (zoI r) h') h 0 [(0, .ref p0), (1, .int p1), (2, .int p2)] [] := by
  unfold f_X6_readNumber_b0 at hf
  refine zr_aload_n C0 dX6_readNumber_0 rfl 0 rfl ?_
  obtain ⟨x1, e2, hf⟩ := zbind hf
  refine zr_get C0 fl_X6_332_X6 dX6_readNumber_1 (zgI e2) ?_
  refine zr_iconst C0 (v := 2) dX6_readNumber_4 (by decide) ?_
  refine zr_icmp_eq C0 (tgt := 14) dX6_readNumber_5 (by decide) (fun c3 => ?_) (fun c3 => ?_)
  · have hf := zif_t c3 hf
    refine zr_aload_n C0 dX6_readNumber_14 rfl 0 rfl ?_
    obtain ⟨x4, e5, hf⟩ := zbind hf
    refine zr_get C0 fl_X6_322_X6 dX6_readNumber_15 (zgL e5) ?_
    refine zr_iload_n C0 dX6_readNumber_18 rfl 1 rfl ?_
    refine zr_i2l C0 dX6_readNumber_19 ?_
    refine zr_iload_n C0 dX6_readNumber_20 rfl 2 rfl ?_
    refine zr_i2l C0 dX6_readNumber_21 ?_
    obtain ⟨x8, h6, e7, hf⟩ := zbind2 hf
    refine zr_callS_r C0 cv_X6_53 (m_X6_inRange C0.2.2.2.2.2.2.1 e7) (by decide) (by decide) rfl rfl (Nat.le_of_ble_eq_true rfl) dX6_readNumber_22 rfl ?_
    refine zr_if_ne C0 (tgt := 34) dX6_readNumber_25 (by decide) (fun c9 => ?_) (fun c9 => ?_)
    · have hf := zif_f c9 hf
      refine zr_aload_n C0 dX6_readNumber_34 rfl 0 rfl ?_
      refine zr_aload_n C0 dX6_readNumber_35 rfl 0 rfl ?_
      obtain ⟨x10, e11, hf⟩ := zbind hf
      refine zr_get C0 fl_X6_322_X6 dX6_readNumber_36 (zgL e11) ?_
      refine zr_l2i C0 dX6_readNumber_39 ?_
      obtain ⟨h12, e13, hf⟩ := zbind hf
      refine zr_put C0 pl_X6_342_X6 dX6_readNumber_40 (fun h => by cases h) rfl rfl e13 ?_
      refine zr_aload_n C0 dX6_readNumber_43 rfl 0 rfl ?_
      obtain ⟨_, e14, hf⟩ := zbind hf
      obtain ⟨x17, h15, e16, hf⟩ := zbind2 hf
      refine zr_callV_r C0 cv_X6_345_X6 rfl (zcko e14) (m_X6_advance C0.2.2.2.2.2.2.1 e16) (by decide) (by decide) rfl rfl (Nat.le_of_ble_eq_true rfl) dX6_readNumber_44 rfl ?_
      refine zr_iconst C0 (v := 1) dX6_readNumber_47 (by decide) ?_
      refine zretW hf ?_
      exact zr_iret C0 (ty := .boolean) rfl (by decide) dX6_readNumber_48 rfl
    · have hf := zif_t c9 hf
      refine zr_aload_n C0 dX6_readNumber_28 rfl 0 rfl ?_
      refine zr_iconst C0 (v := 2) dX6_readNumber_29 (by decide) ?_
      obtain ⟨_, e18, hf⟩ := zbind hf
      obtain ⟨x21, h19, e20, hf⟩ := zbind2 hf
      refine zr_callV_r C0 cv_X6_339_X6 rfl (zcko e18) (m_X6_fail C0.2.2.2.2.2.2.1 e20) (by decide) (by decide) rfl rfl (Nat.le_of_ble_eq_true rfl) dX6_readNumber_30 rfl ?_
      obtain ⟨_, e22, hf⟩ := zbind hf
      refine zretW hf ?_
      exact zr_iret C0 (ty := .boolean) rfl (zgd_n e22) dX6_readNumber_33 rfl
  · have hf := zif_f c3 hf
    refine zr_aload_n C0 dX6_readNumber_8 rfl 0 rfl ?_
    refine zr_iconst C0 (v := 1) dX6_readNumber_9 (by decide) ?_
    obtain ⟨_, e23, hf⟩ := zbind hf
    obtain ⟨x26, h24, e25, hf⟩ := zbind2 hf
    refine zr_callV_r C0 cv_X6_339_X6 rfl (zcko e23) (m_X6_fail C0.2.2.2.2.2.2.1 e25) (by decide) (by decide) rfl rfl (Nat.le_of_ble_eq_true rfl) dX6_readNumber_10 rfl ?_
    obtain ⟨_, e27, hf⟩ := zbind hf
    refine zretW hf ?_
    exact zr_iret C0 (ty := .boolean) rfl (zgd_n e27) dX6_readNumber_13 rfl
def f_X6_readNumber (E : zE) (p0 : Nat) (p1 : Int32) (p2 : Int32) (h : zH) : Option (Int32 × zH) := f_X6_readNumber_b0 E p0 p1 p2 h
theorem m_X6_readNumber {l : Launch} (hst : l.stackTraces = false) {D : zD} {B0 : Nat} {E : zE} {p0 : Nat} {p1 : Int32} {p2 : Int32} {h h' : zH} {r : Int32} (hf : f_X6_readNumber E p0 p1 p2 h = some (r, h')) : zMet l yX6_readNumber (ws_ yX6_readNumber cX6_readNumber 3 (Option.some Jvm.ClassFile.FieldType.boolean)) 4 126 D B0 E [.ref p0, .int p1, .int p2] h (zoI r) h' := by
  unfold f_X6_readNumber at hf
  refine zMet_of hst (by decide +kernel) rfl rfl (Nat.le_of_ble_eq_true rfl) (fun p e R s m below meth c C0 hno => ?_)
  show zW _ _ _ _ _ _ _ _ _ _ _ _ _ _ _ _ [(0, .ref p0), (1, .int p1), (2, .int p2)] []
  exact w_X6_readNumber_b0 C0 hf
def f_X6_readInto_b0 (E : zE) (p0 : Nat) (p1 : Int32) (p2 : Int32) (p3 : Int32) (p4 : Int64) (h : zH) : Option (Int32 × zH) :=
  (cko h p0 1).bind fun _ =>
  bnd2 (f_X6_readNumber E p0 p2 p3 h) fun x4 h2 =>
  if x4 = 0 then (
    some ((0 : Int32), h2)
  ) else (
    (gR h2 p0 1 0).bind fun x6 =>
    (gI h2 p0 1 15).bind fun x8 =>
    (sL h2 x6 p1 ((x8.toInt64) * p4)).bind fun h10 =>
    some ((1 : Int32), h10)
  )
theorem w_X6_readInto_b0 (C0 : zCx p l e R s m args below meth c D B0 6 "FranchiseLedgerModel" cX6_readInto E 5 148 (Option.some Jvm.ClassFile.FieldType.boolean) "readInto") {r : Int32} {h' : zH} {p0 : Nat} {p1 : Int32} {p2 : Int32} {p3 : Int32} {p4 : Int64} {h : zH} (hf : f_X6_readInto_b0 E p0 p1 p2 p3 p4 h = some (r, h')) : zW p l e R s m args below meth c D B0 6 (zEnd D B0 R below args s (zoI r) h') h 0 [(0, .ref p0), (1, .int p1), (2, .int p2), (3, .int p3), (4, .long p4)] [] := by
  unfold f_X6_readInto_b0 at hf
  refine zr_aload_n C0 dX6_readInto_0 rfl 0 rfl ?_
  refine zr_iload_n C0 dX6_readInto_1 rfl 2 rfl ?_
  refine zr_iload_n C0 dX6_readInto_2 rfl 3 rfl ?_
  obtain ⟨_, e1, hf⟩ := zbind hf
  obtain ⟨x4, h2, e3, hf⟩ := zbind2 hf
  refine zr_callV_r C0 cv_X6_348_X6 rfl (zcko e1) (m_X6_readNumber C0.2.2.2.2.2.2.1 e3) (by decide) (by decide) rfl rfl (Nat.le_of_ble_eq_true rfl) dX6_readInto_3 rfl ?_
  refine zr_if_ne C0 (tgt := 11) dX6_readInto_6 (by decide) (fun c5 => ?_) (fun c5 => ?_)
  · have hf := zif_f c5 hf
    refine zr_aload_n C0 dX6_readInto_11 rfl 0 rfl ?_
    obtain ⟨x6, e7, hf⟩ := zbind hf
    refine zr_get C0 fl_X6_9_X6 dX6_readInto_12 (zgR e7) ?_
    refine zr_iload_n C0 dX6_readInto_15 rfl 1 rfl ?_
    refine zr_aload_n C0 dX6_readInto_16 rfl 0 rfl ?_
    obtain ⟨x8, e9, hf⟩ := zbind hf
    refine zr_get C0 fl_X6_342_X6 dX6_readInto_17 (zgI e9) ?_
    refine zr_i2l C0 dX6_readInto_20 ?_
    refine zr_lload C0 dX6_readInto_21 4 rfl ?_
    refine zr_lmul C0 dX6_readInto_23 ?_
    obtain ⟨h10, e11, hf⟩ := zbind hf
    refine zr_last C0 dX6_readInto_24 e11 ?_
    refine zr_iconst C0 (v := 1) dX6_readInto_25 (by decide) ?_
    refine zretW hf ?_
    exact zr_iret C0 (ty := .boolean) rfl (by decide) dX6_readInto_26 rfl
  · have hf := zif_t c5 hf
    refine zr_iconst C0 (v := 0) dX6_readInto_9 (by decide) ?_
    refine zretW hf ?_
    exact zr_iret C0 (ty := .boolean) rfl (by decide) dX6_readInto_10 rfl
def f_X6_readInto (E : zE) (p0 : Nat) (p1 : Int32) (p2 : Int32) (p3 : Int32) (p4 : Int64) (h : zH) : Option (Int32 × zH) := f_X6_readInto_b0 E p0 p1 p2 p3 p4 h
theorem m_X6_readInto {l : Launch} (hst : l.stackTraces = false) {D : zD} {B0 : Nat} {E : zE} {p0 : Nat} {p1 : Int32} {p2 : Int32} {p3 : Int32} {p4 : Int64} {h h' : zH} {r : Int32} (hf : f_X6_readInto E p0 p1 p2 p3 p4 h = some (r, h')) : zMet l yX6_readInto (ws_ yX6_readInto cX6_readInto 6 (Option.some Jvm.ClassFile.FieldType.boolean)) 5 148 D B0 E [.ref p0, .int p1, .int p2, .int p3, .long p4] h (zoI r) h' := by
  unfold f_X6_readInto at hf
  refine zMet_of hst (by decide +kernel) rfl rfl (Nat.le_of_ble_eq_true rfl) (fun p e R s m below meth c C0 hno => ?_)
  show zW _ _ _ _ _ _ _ _ _ _ _ _ _ _ _ _ [(0, .ref p0), (1, .int p1), (2, .int p2), (3, .int p3), (4, .long p4)] []
  exact w_X6_readInto_b0 C0 hf
def f_X6_readEnd_b0 (E : zE) (p0 : Nat) (h : zH) : Option (Int32 × zH) :=
  (gI h p0 1 13).bind fun x1 =>
  if x1 = (3 : Int32) then (
    (cko h p0 1).bind fun _ =>
    bnd2 (f_X6_advance E p0 h) fun x7 h5 =>
    some ((1 : Int32), h5)
  ) else (
    (cko h p0 1).bind fun _ =>
    bnd2 (f_X6_fail E p0 (1 : Int32) h) fun x11 h9 =>
    (zgd .boolean x11).bind fun _ =>
    some (x11, h9)
  )
theorem w_X6_readEnd_b0 (C0 : zCx p l e R s m args below meth c D B0 1 "FranchiseLedgerModel" cX6_readEnd E 4 126 (Option.some Jvm.ClassFile.FieldType.boolean) "readEnd") {r : Int32} {h' : zH} {p0 : Nat} {h : zH} (hf : f_X6_readEnd_b0 E p0 h = some (r, h')) : zW p l e R s m args below meth c D B0 1 (zEnd D B0 R below args s (zoI r) h') h 0 [(0, .ref p0)] [] := by
  unfold f_X6_readEnd_b0 at hf
  refine zr_aload_n C0 dX6_readEnd_0 rfl 0 rfl ?_
  obtain ⟨x1, e2, hf⟩ := zbind hf
  refine zr_get C0 fl_X6_332_X6 dX6_readEnd_1 (zgI e2) ?_
  refine zr_iconst C0 (v := 3) dX6_readEnd_4 (by decide) ?_
  refine zr_icmp_eq C0 (tgt := 14) dX6_readEnd_5 (by decide) (fun c3 => ?_) (fun c3 => ?_)
  · have hf := zif_t c3 hf
    refine zr_aload_n C0 dX6_readEnd_14 rfl 0 rfl ?_
    obtain ⟨_, e4, hf⟩ := zbind hf
    obtain ⟨x7, h5, e6, hf⟩ := zbind2 hf
    refine zr_callV_r C0 cv_X6_345_X6 rfl (zcko e4) (m_X6_advance C0.2.2.2.2.2.2.1 e6) (by decide) (by decide) rfl rfl (Nat.le_of_ble_eq_true rfl) dX6_readEnd_15 rfl ?_
    refine zr_iconst C0 (v := 1) dX6_readEnd_18 (by decide) ?_
    refine zretW hf ?_
    exact zr_iret C0 (ty := .boolean) rfl (by decide) dX6_readEnd_19 rfl
  · have hf := zif_f c3 hf
    refine zr_aload_n C0 dX6_readEnd_8 rfl 0 rfl ?_
    refine zr_iconst C0 (v := 1) dX6_readEnd_9 (by decide) ?_
    obtain ⟨_, e8, hf⟩ := zbind hf
    obtain ⟨x11, h9, e10, hf⟩ := zbind2 hf
    refine zr_callV_r C0 cv_X6_339_X6 rfl (zcko e8) (m_X6_fail C0.2.2.2.2.2.2.1 e10) (by decide) (by decide) rfl rfl (Nat.le_of_ble_eq_true rfl) dX6_readEnd_10 rfl ?_
    obtain ⟨_, e12, hf⟩ := zbind hf
    refine zretW hf ?_
    exact zr_iret C0 (ty := .boolean) rfl (zgd_n e12) dX6_readEnd_13 rfl
def f_X6_readEnd (E : zE) (p0 : Nat) (h : zH) : Option (Int32 × zH) := f_X6_readEnd_b0 E p0 h
theorem m_X6_readEnd {l : Launch} (hst : l.stackTraces = false) {D : zD} {B0 : Nat} {E : zE} {p0 : Nat} {h h' : zH} {r : Int32} (hf : f_X6_readEnd E p0 h = some (r, h')) : zMet l yX6_readEnd (ws_ yX6_readEnd cX6_readEnd 1 (Option.some Jvm.ClassFile.FieldType.boolean)) 4 126 D B0 E [.ref p0] h (zoI r) h' := by
  unfold f_X6_readEnd at hf
  refine zMet_of hst (by decide +kernel) rfl rfl (Nat.le_of_ble_eq_true rfl) (fun p e R s m below meth c C0 hno => ?_)
  show zW _ _ _ _ _ _ _ _ _ _ _ _ _ _ _ _ [(0, .ref p0)] []
  exact w_X6_readEnd_b0 C0 hf
def f_X6_readPlan_b72 (E : zE) (h : zH) : Option (Int32 × zH) :=
  some ((0 : Int32), h)
theorem w_X6_readPlan_b72 (C0 : zCx p l e R s m args below meth c D B0 4 "FranchiseLedgerModel" cX6_readPlan E 6 173 (Option.some Jvm.ClassFile.FieldType.boolean) "readPlan") {r : Int32} {h' : zH} {h : zH} (hf : f_X6_readPlan_b72 E  h = some (r, h')) : zW p l e R s m args below meth c D B0 4 (zEnd D B0 R below args s (zoI r) h') h 72 [] [] := by
  unfold f_X6_readPlan_b72 at hf
  refine zr_iconst C0 (v := 0) dX6_readPlan_72 (by decide) ?_
  refine zretW hf ?_
  exact zr_iret C0 (ty := .boolean) rfl (by decide) dX6_readPlan_73 rfl
def f_X6_readPlan_l78 (E : zE) : Nat → Nat → Int32 → Int32 → Int32 → zH → Option (Int32 × zH)
  | 0, _, _, _, _, _ => none
  | n + 1, p0, p1, p2, p3, h =>
    (gI h p0 1 13).bind fun x1 =>
    if x1 = (2 : Int32) then (
      (gL h p0 1 16).bind fun x15 =>
      bnd2 (f_X6_inRange E x15 (p2.toInt64) (99999 : Int64) h) fun x19 h17 =>
      if x19 = 0 then (
        (cko h17 p0 1).bind fun _ =>
        bnd2 (f_X6_fail E p0 (2 : Int32) h17) fun x53 h51 =>
        (zgd .boolean x53).bind fun _ =>
        some (x53, h51)
      ) else (
        if p3 = (4 : Int32) then (
          (cko h17 p0 1).bind fun _ =>
          bnd2 (f_X6_fail E p0 (4 : Int32) h17) fun x48 h46 =>
          (zgd .boolean x48).bind fun _ =>
          some (x48, h46)
        ) else (
          (gL h17 p0 1 16).bind fun x22 =>
          (gR h17 p0 1 0).bind fun x24 =>
          (gL h17 p0 1 16).bind fun x26 =>
          (sL h17 x24 ((p1 + (3 : Int32)) + p3) (x26 * (100 : Int64))).bind fun h28 =>
          (cko h28 p0 1).bind fun _ =>
          bnd2 (f_X6_advance E p0 h28) fun x33 h31 =>
          (cko h31 p0 1).bind fun _ =>
          bnd2 (f_X6_readInto E p0 ((p1 + (7 : Int32)) + p3) (0 : Int32) (3000 : Int32) (1 : Int64) h31) fun x37 h35 =>
          if x37 = 0 then (
            some ((0 : Int32), h35)
          ) else (
            (gR h35 p0 1 0).bind fun x39 =>
            (dL h35 x39 (p1 + (2 : Int32))).bind fun x41 =>
            (sL h35 x39 (p1 + (2 : Int32)) (x41 + (1 : Int64))).bind fun h43 =>
            f_X6_readPlan_l78 E n p0 p1 ((x22.toInt32) + (1 : Int32)) (p3 + 1) h43
          )
        )
      )
    ) else (
      (gR h p0 1 0).bind fun x4 =>
      (dL h x4 (15163 : Int32)).bind fun x6 =>
      (sL h x4 (15163 : Int32) (x6 + (1 : Int64))).bind fun h8 =>
      (cko h8 p0 1).bind fun _ =>
      bnd2 (f_X6_readEnd E p0 h8) fun x13 h11 =>
      (zgd .boolean x13).bind fun _ =>
      some (x13, h11)
    )
theorem w_X6_readPlan_l78 (C0 : zCx p l e R s m args below meth c D B0 4 "FranchiseLedgerModel" cX6_readPlan E 6 173 (Option.some Jvm.ClassFile.FieldType.boolean) "readPlan") {r : Int32} {h' : zH} : ∀ (n : Nat) (p0 : Nat) (p1 : Int32) (p2 : Int32) (p3 : Int32) (h : zH), f_X6_readPlan_l78 E n p0 p1 p2 p3 h = some (r, h') → zW p l e R s m args below meth c D B0 4 (zEnd D B0 R below args s (zoI r) h') h 78 [(0, .ref p0), (1, .int p1), (2, .int p2), (3, .int p3)] [] := by
  intro n
  induction n with
  | zero =>
    intro p0 p1 p2 p3 h hf
    unfold f_X6_readPlan_l78 at hf
    cases hf
  | succ n ih =>
    intro p0 p1 p2 p3 h hf
    unfold f_X6_readPlan_l78 at hf
    refine zr_aload_n C0 dX6_readPlan_78 rfl 0 rfl ?_
    obtain ⟨x1, e2, hf⟩ := zbind hf
    refine zr_get C0 fl_X6_332_X6 dX6_readPlan_79 (zgI e2) ?_
    refine zr_iconst C0 (v := 2) dX6_readPlan_82 (by decide) ?_
    refine zr_icmp_ne C0 (tgt := 186) dX6_readPlan_83 (by decide) (fun c3 => ?_) (fun c3 => ?_)
    · have hf := zif_f c3 hf
      refine zr_aload_n C0 dX6_readPlan_186 rfl 0 rfl ?_
      obtain ⟨x4, e5, hf⟩ := zbind hf
      refine zr_get C0 fl_X6_9_X6 dX6_readPlan_187 (zgR e5) ?_
      refine zr_sipush C0 (v := 15163) dX6_readPlan_190 (by decide) ?_
      refine zr_dup2_11 C0 dX6_readPlan_193 rfl rfl ?_
      obtain ⟨x6, e7, hf⟩ := zbind hf
      refine zr_lald C0 dX6_readPlan_194 e7 ?_
      refine zr_lconst C0 (v := 1) dX6_readPlan_195 (by decide) ?_
      refine zr_ladd C0 dX6_readPlan_196 ?_
      obtain ⟨h8, e9, hf⟩ := zbind hf
      refine zr_last C0 dX6_readPlan_197 e9 ?_
      refine zr_aload_n C0 dX6_readPlan_198 rfl 0 rfl ?_
      obtain ⟨_, e10, hf⟩ := zbind hf
      obtain ⟨x13, h11, e12, hf⟩ := zbind2 hf
      refine zr_callV_r C0 cv_X6_361_X6 rfl (zcko e10) (m_X6_readEnd C0.2.2.2.2.2.2.1 e12) (by decide) (by decide) rfl rfl (Nat.le_of_ble_eq_true rfl) dX6_readPlan_199 rfl ?_
      obtain ⟨_, e14, hf⟩ := zbind hf
      refine zretW hf ?_
      exact zr_iret C0 (ty := .boolean) rfl (zgd_n e14) dX6_readPlan_202 rfl
    · have hf := zif_t c3 hf
      refine zr_aload_n C0 dX6_readPlan_86 rfl 0 rfl ?_
      obtain ⟨x15, e16, hf⟩ := zbind hf
      refine zr_get C0 fl_X6_322_X6 dX6_readPlan_87 (zgL e16) ?_
      refine zr_iload_n C0 dX6_readPlan_90 rfl 2 rfl ?_
      refine zr_i2l C0 dX6_readPlan_91 ?_
      refine zr_ldc2 C0 (v := 99999) q3139 dX6_readPlan_92 ?_
      obtain ⟨x19, h17, e18, hf⟩ := zbind2 hf
      refine zr_callS_r C0 cv_X6_53 (m_X6_inRange C0.2.2.2.2.2.2.1 e18) (by decide) (by decide) rfl rfl (Nat.le_of_ble_eq_true rfl) dX6_readPlan_95 rfl ?_
      refine zr_if_ne C0 (tgt := 107) dX6_readPlan_98 (by decide) (fun c20 => ?_) (fun c20 => ?_)
      · have hf := zif_f c20 hf
        refine zr_iload_n C0 dX6_readPlan_107 rfl 3 rfl ?_
        refine zr_iconst C0 (v := 4) dX6_readPlan_108 (by decide) ?_
        refine zr_icmp_ne C0 (tgt := 118) dX6_readPlan_109 (by decide) (fun c21 => ?_) (fun c21 => ?_)
        · have hf := zif_f c21 hf
          refine zr_aload_n C0 dX6_readPlan_118 rfl 0 rfl ?_
          obtain ⟨x22, e23, hf⟩ := zbind hf
          refine zr_get C0 fl_X6_322_X6 dX6_readPlan_119 (zgL e23) ?_
          refine zr_l2i C0 dX6_readPlan_122 ?_
          refine zr_iconst C0 (v := 1) dX6_readPlan_123 (by decide) ?_
          refine zr_iadd C0 dX6_readPlan_124 ?_
          refine zr_istore_n (i := 2) (lv' := [(2, .int ((x22.toInt32) + (1 : Int32))), (0, .ref p0), (1, .int p1), (3, .int p3)]) C0 dX6_readPlan_125 rfl (by decide) (by first | rfl | simp [zst1, zst2, zcat_rf]) ?_
          refine zr_aload_n C0 dX6_readPlan_126 rfl 1 rfl ?_
          obtain ⟨x24, e25, hf⟩ := zbind hf
          refine zr_get C0 fl_X6_9_X6 dX6_readPlan_127 (zgR e25) ?_
          refine zr_iload_n C0 dX6_readPlan_130 rfl 2 rfl ?_
          refine zr_iconst C0 (v := 3) dX6_readPlan_131 (by decide) ?_
          refine zr_iadd C0 dX6_readPlan_132 ?_
          refine zr_iload_n C0 dX6_readPlan_133 rfl 3 rfl ?_
          refine zr_iadd C0 dX6_readPlan_134 ?_
          refine zr_aload_n C0 dX6_readPlan_135 rfl 1 rfl ?_
          obtain ⟨x26, e27, hf⟩ := zbind hf
          refine zr_get C0 fl_X6_322_X6 dX6_readPlan_136 (zgL e27) ?_
          refine zr_ldc2 C0 (v := 100) q2752 dX6_readPlan_139 ?_
          refine zr_lmul C0 dX6_readPlan_142 ?_
          obtain ⟨h28, e29, hf⟩ := zbind hf
          refine zr_last C0 dX6_readPlan_143 e29 ?_
          refine zr_aload_n C0 dX6_readPlan_144 rfl 1 rfl ?_
          obtain ⟨_, e30, hf⟩ := zbind hf
          obtain ⟨x33, h31, e32, hf⟩ := zbind2 hf
          refine zr_callV_r C0 cv_X6_345_X6 rfl (zcko e30) (m_X6_advance C0.2.2.2.2.2.2.1 e32) (by decide) (by decide) rfl rfl (Nat.le_of_ble_eq_true rfl) dX6_readPlan_145 rfl ?_
          refine zr_aload_n C0 dX6_readPlan_148 rfl 1 rfl ?_
          refine zr_iload_n C0 dX6_readPlan_149 rfl 2 rfl ?_
          refine zr_bipush C0 (v := 7) dX6_readPlan_150 (by decide) ?_
          refine zr_iadd C0 dX6_readPlan_152 ?_
          refine zr_iload_n C0 dX6_readPlan_153 rfl 3 rfl ?_
          refine zr_iadd C0 dX6_readPlan_154 ?_
          refine zr_iconst C0 (v := 0) dX6_readPlan_155 (by decide) ?_
          refine zr_sipush C0 (v := 3000) dX6_readPlan_156 (by decide) ?_
          refine zr_lconst C0 (v := 1) dX6_readPlan_159 (by decide) ?_
          obtain ⟨_, e34, hf⟩ := zbind hf
          obtain ⟨x37, h35, e36, hf⟩ := zbind2 hf
          refine zr_callV_r C0 cv_X6_355_X6 rfl (zcko e34) (m_X6_readInto C0.2.2.2.2.2.2.1 e36) (by decide) (by decide) rfl rfl (Nat.le_of_ble_eq_true rfl) dX6_readPlan_160 rfl ?_
          refine zr_if_ne C0 (tgt := 168) dX6_readPlan_163 (by decide) (fun c38 => ?_) (fun c38 => ?_)
          · have hf := zif_f c38 hf
            refine zr_aload_n C0 dX6_readPlan_168 rfl 1 rfl ?_
            obtain ⟨x39, e40, hf⟩ := zbind hf
            refine zr_get C0 fl_X6_9_X6 dX6_readPlan_169 (zgR e40) ?_
            refine zr_iload_n C0 dX6_readPlan_172 rfl 2 rfl ?_
            refine zr_iconst C0 (v := 2) dX6_readPlan_173 (by decide) ?_
            refine zr_iadd C0 dX6_readPlan_174 ?_
            refine zr_dup2_11 C0 dX6_readPlan_175 rfl rfl ?_
            obtain ⟨x41, e42, hf⟩ := zbind hf
            refine zr_lald C0 dX6_readPlan_176 e42 ?_
            refine zr_lconst C0 (v := 1) dX6_readPlan_177 (by decide) ?_
            refine zr_ladd C0 dX6_readPlan_178 ?_
            obtain ⟨h43, e44, hf⟩ := zbind hf
            refine zr_last C0 dX6_readPlan_179 e44 ?_
            refine zr_iinc (lv' := [(3, .int (p3 + 1)), (2, .int ((x22.toInt32) + (1 : Int32))), (0, .ref p0), (1, .int p1)]) C0 dX6_readPlan_180 3 rfl rfl (by decide) (by first | rfl | simp [zst1, zst2, zcat_rf]) ?_
            refine zr_goto C0 (tgt := 78) dX6_readPlan_183 (by decide) ?_
            refine zr_sub [2, 3, 1, 0] rfl ?_
            exact ih _ _ _ _ _ hf
          · have hf := zif_t c38 hf
            refine zr_iconst C0 (v := 0) dX6_readPlan_166 (by decide) ?_
            refine zretW hf ?_
            exact zr_iret C0 (ty := .boolean) rfl (by decide) dX6_readPlan_167 rfl
        · have hf := zif_t c21 hf
          refine zr_aload_n C0 dX6_readPlan_112 rfl 0 rfl ?_
          refine zr_iconst C0 (v := 4) dX6_readPlan_113 (by decide) ?_
          obtain ⟨_, e45, hf⟩ := zbind hf
          obtain ⟨x48, h46, e47, hf⟩ := zbind2 hf
          refine zr_callV_r C0 cv_X6_339_X6 rfl (zcko e45) (m_X6_fail C0.2.2.2.2.2.2.1 e47) (by decide) (by decide) rfl rfl (Nat.le_of_ble_eq_true rfl) dX6_readPlan_114 rfl ?_
          obtain ⟨_, e49, hf⟩ := zbind hf
          refine zretW hf ?_
          exact zr_iret C0 (ty := .boolean) rfl (zgd_n e49) dX6_readPlan_117 rfl
      · have hf := zif_t c20 hf
        refine zr_aload_n C0 dX6_readPlan_101 rfl 0 rfl ?_
        refine zr_iconst C0 (v := 2) dX6_readPlan_102 (by decide) ?_
        obtain ⟨_, e50, hf⟩ := zbind hf
        obtain ⟨x53, h51, e52, hf⟩ := zbind2 hf
        refine zr_callV_r C0 cv_X6_339_X6 rfl (zcko e50) (m_X6_fail C0.2.2.2.2.2.2.1 e52) (by decide) (by decide) rfl rfl (Nat.le_of_ble_eq_true rfl) dX6_readPlan_103 rfl ?_
        obtain ⟨_, e54, hf⟩ := zbind hf
        refine zretW hf ?_
        exact zr_iret C0 (ty := .boolean) rfl (zgd_n e54) dX6_readPlan_106 rfl
def f_X6_readPlan_b0 (E : zE) (p0 : Nat) (h : zH) : Option (Int32 × zH) :=
  (gR h p0 1 0).bind fun x1 =>
  (dL h x1 (15163 : Int32)).bind fun x3 =>
  if x3 = (4 : Int64) then (
    (cko h p0 1).bind fun _ =>
    bnd2 (f_X6_fail E p0 (4 : Int32) h) fun x27 h25 =>
    (zgd .boolean x27).bind fun _ =>
    some (x27, h25)
  ) else (
    (cko h p0 1).bind fun _ =>
    bnd2 (f_X6_advance E p0 h) fun x9 h7 =>
    (gR h7 p0 1 0).bind fun x10 =>
    (dL h7 x10 (15163 : Int32)).bind fun x12 =>
    (cko h7 p0 1).bind fun _ =>
    bnd2 (f_X6_readInto E p0 (((15176 : Int32) + ((11 : Int32) * (x12.toInt32))) + (0 : Int32)) (0 : Int32) (1000 : Int32) (1 : Int64) h7) fun x17 h15 =>
    if x17 = 0 then (
      f_X6_readPlan_b72 E  h15
    ) else (
      (cko h15 p0 1).bind fun _ =>
      bnd2 (f_X6_readInto E p0 (((15176 : Int32) + ((11 : Int32) * (x12.toInt32))) + (1 : Int32)) (0 : Int32) (3000 : Int32) (1 : Int64) h15) fun x22 h20 =>
      if x22 = 0 then (
        f_X6_readPlan_b72 E  h20
      ) else (
        f_X6_readPlan_l78 E E.1 p0 ((15176 : Int32) + ((11 : Int32) * (x12.toInt32))) (1 : Int32) (0 : Int32) h20
      )
    )
  )
theorem w_X6_readPlan_b0 (C0 : zCx p l e R s m args below meth c D B0 4 "FranchiseLedgerModel" cX6_readPlan E 6 173 (Option.some Jvm.ClassFile.FieldType.boolean) "readPlan") {r : Int32} {h' : zH} {p0 : Nat} {h : zH} (hf : f_X6_readPlan_b0 E p0 h = some (r, h')) : zW p l e R s m args below meth c D B0 4 (zEnd D B0 R below args s (zoI r) h') h 0 [(0, .ref p0)] [] := by
  unfold f_X6_readPlan_b0 at hf
  refine zr_aload_n C0 dX6_readPlan_0 rfl 0 rfl ?_
  obtain ⟨x1, e2, hf⟩ := zbind hf
  refine zr_get C0 fl_X6_9_X6 dX6_readPlan_1 (zgR e2) ?_
  refine zr_sipush C0 (v := 15163) dX6_readPlan_4 (by decide) ?_
  obtain ⟨x3, e4, hf⟩ := zbind hf
  refine zr_lald C0 dX6_readPlan_7 e4 ?_
  refine zr_ldc2 C0 (v := 4) q2912 dX6_readPlan_8 ?_
  refine zr_lcmp C0 dX6_readPlan_11 ?_
  refine zr_if_ne C0 (tgt := 21) dX6_readPlan_12 (by decide) (fun c5 => ?_) (fun c5 => ?_)
  · have hf := zif_f (zl_ne.mp c5) hf
    refine zr_aload_n C0 dX6_readPlan_21 rfl 0 rfl ?_
    obtain ⟨_, e6, hf⟩ := zbind hf
    obtain ⟨x9, h7, e8, hf⟩ := zbind2 hf
    refine zr_callV_r C0 cv_X6_345_X6 rfl (zcko e6) (m_X6_advance C0.2.2.2.2.2.2.1 e8) (by decide) (by decide) rfl rfl (Nat.le_of_ble_eq_true rfl) dX6_readPlan_22 rfl ?_
    refine zr_sipush C0 (v := 15176) dX6_readPlan_25 (by decide) ?_
    refine zr_bipush C0 (v := 11) dX6_readPlan_28 (by decide) ?_
    refine zr_aload_n C0 dX6_readPlan_30 rfl 0 rfl ?_
    obtain ⟨x10, e11, hf⟩ := zbind hf
    refine zr_get C0 fl_X6_9_X6 dX6_readPlan_31 (zgR e11) ?_
    refine zr_sipush C0 (v := 15163) dX6_readPlan_34 (by decide) ?_
    obtain ⟨x12, e13, hf⟩ := zbind hf
    refine zr_lald C0 dX6_readPlan_37 e13 ?_
    refine zr_l2i C0 dX6_readPlan_38 ?_
    refine zr_imul C0 dX6_readPlan_39 ?_
    refine zr_iadd C0 dX6_readPlan_40 ?_
    refine zr_istore_n (i := 1) (lv' := [(1, .int ((15176 : Int32) + ((11 : Int32) * (x12.toInt32)))), (0, .ref p0)]) C0 dX6_readPlan_41 rfl (by decide) (by first | rfl | simp [zst1, zst2, zcat_rf]) ?_
    refine zr_aload_n C0 dX6_readPlan_42 rfl 1 rfl ?_
    refine zr_iload_n C0 dX6_readPlan_43 rfl 0 rfl ?_
    refine zr_iconst C0 (v := 0) dX6_readPlan_44 (by decide) ?_
    refine zr_iadd C0 dX6_readPlan_45 ?_
    refine zr_iconst C0 (v := 0) dX6_readPlan_46 (by decide) ?_
    refine zr_sipush C0 (v := 1000) dX6_readPlan_47 (by decide) ?_
    refine zr_lconst C0 (v := 1) dX6_readPlan_50 (by decide) ?_
    obtain ⟨_, e14, hf⟩ := zbind hf
    obtain ⟨x17, h15, e16, hf⟩ := zbind2 hf
    refine zr_callV_r C0 cv_X6_355_X6 rfl (zcko e14) (m_X6_readInto C0.2.2.2.2.2.2.1 e16) (by decide) (by decide) rfl rfl (Nat.le_of_ble_eq_true rfl) dX6_readPlan_51 rfl ?_
    refine zr_if_eq C0 (tgt := 72) dX6_readPlan_54 (by decide) (fun c18 => ?_) (fun c18 => ?_)
    · have hf := zif_t c18 hf
      refine zr_sub [] rfl ?_
      exact w_X6_readPlan_b72 C0 hf
    · have hf := zif_f c18 hf
      refine zr_aload_n C0 dX6_readPlan_57 rfl 1 rfl ?_
      refine zr_iload_n C0 dX6_readPlan_58 rfl 0 rfl ?_
      refine zr_iconst C0 (v := 1) dX6_readPlan_59 (by decide) ?_
      refine zr_iadd C0 dX6_readPlan_60 ?_
      refine zr_iconst C0 (v := 0) dX6_readPlan_61 (by decide) ?_
      refine zr_sipush C0 (v := 3000) dX6_readPlan_62 (by decide) ?_
      refine zr_lconst C0 (v := 1) dX6_readPlan_65 (by decide) ?_
      obtain ⟨_, e19, hf⟩ := zbind hf
      obtain ⟨x22, h20, e21, hf⟩ := zbind2 hf
      refine zr_callV_r C0 cv_X6_355_X6 rfl (zcko e19) (m_X6_readInto C0.2.2.2.2.2.2.1 e21) (by decide) (by decide) rfl rfl (Nat.le_of_ble_eq_true rfl) dX6_readPlan_66 rfl ?_
      refine zr_if_ne C0 (tgt := 74) dX6_readPlan_69 (by decide) (fun c23 => ?_) (fun c23 => ?_)
      · have hf := zif_f c23 hf
        refine zr_iconst C0 (v := 1) dX6_readPlan_74 (by decide) ?_
        refine zr_istore_n (i := 2) (lv' := [(2, .int (1 : Int32)), (1, .int ((15176 : Int32) + ((11 : Int32) * (x12.toInt32)))), (0, .ref p0)]) C0 dX6_readPlan_75 rfl (by decide) (by first | rfl | simp [zst1, zst2, zcat_rf]) ?_
        refine zr_iconst C0 (v := 0) dX6_readPlan_76 (by decide) ?_
        refine zr_istore_n (i := 3) (lv' := [(3, .int (0 : Int32)), (2, .int (1 : Int32)), (1, .int ((15176 : Int32) + ((11 : Int32) * (x12.toInt32)))), (0, .ref p0)]) C0 dX6_readPlan_77 rfl (by decide) (by first | rfl | simp [zst1, zst2, zcat_rf]) ?_
        refine zr_sub [3, 2, 1, 0] rfl ?_
        exact w_X6_readPlan_l78 C0 _ _ _ _ _ _ hf
      · have hf := zif_t c23 hf
        refine zr_sub [] rfl ?_
        exact w_X6_readPlan_b72 C0 hf
  · have hf := zif_t (zl_nen.mp c5) hf
    refine zr_aload_n C0 dX6_readPlan_15 rfl 0 rfl ?_
    refine zr_iconst C0 (v := 4) dX6_readPlan_16 (by decide) ?_
    obtain ⟨_, e24, hf⟩ := zbind hf
    obtain ⟨x27, h25, e26, hf⟩ := zbind2 hf
    refine zr_callV_r C0 cv_X6_339_X6 rfl (zcko e24) (m_X6_fail C0.2.2.2.2.2.2.1 e26) (by decide) (by decide) rfl rfl (Nat.le_of_ble_eq_true rfl) dX6_readPlan_17 rfl ?_
    obtain ⟨_, e28, hf⟩ := zbind hf
    refine zretW hf ?_
    exact zr_iret C0 (ty := .boolean) rfl (zgd_n e28) dX6_readPlan_20 rfl
def f_X6_readPlan (E : zE) (p0 : Nat) (h : zH) : Option (Int32 × zH) := f_X6_readPlan_b0 E p0 h
theorem m_X6_readPlan {l : Launch} (hst : l.stackTraces = false) {D : zD} {B0 : Nat} {E : zE} {p0 : Nat} {h h' : zH} {r : Int32} (hf : f_X6_readPlan E p0 h = some (r, h')) : zMet l yX6_readPlan (ws_ yX6_readPlan cX6_readPlan 4 (Option.some Jvm.ClassFile.FieldType.boolean)) 6 173 D B0 E [.ref p0] h (zoI r) h' := by
  unfold f_X6_readPlan at hf
  refine zMet_of hst (by decide +kernel) rfl rfl (Nat.le_of_ble_eq_true rfl) (fun p e R s m below meth c C0 hno => ?_)
  show zW _ _ _ _ _ _ _ _ _ _ _ _ _ _ _ _ [(0, .ref p0)] []
  exact w_X6_readPlan_b0 C0 hf
def f_X6_named_l3 (E : zE) : Nat → Nat → Int32 → Int64 → Int32 → zH → Option (Int32 × zH)
  | 0, _, _, _, _, _ => none
  | n + 1, p0, p1, p2, p4, h =>
    (gR h p0 1 0).bind fun x1 =>
    (dL h x1 (((5054 : Int32) * p1) + (2 : Int32))).bind fun x3 =>
    if x3 ≤ (p4.toInt64) then (
      some ((-1 : Int32), h)
    ) else (
      (gR h p0 1 0).bind fun x6 =>
      (dL h x6 (((((5054 : Int32) * p1) + (58 : Int32)) + ((16 : Int32) * p4)) + (0 : Int32))).bind fun x8 =>
      if x8 = p2 then (
        some (p4, h)
      ) else (
        f_X6_named_l3 E n p0 p1 p2 (p4 + 1) h
      )
    )
theorem w_X6_named_l3 (C0 : zCx p l e R s m args below meth c D B0 5 "FranchiseLedgerModel" cX6_named E 1 60 (Option.some Jvm.ClassFile.FieldType.int) "named") {r : Int32} {h' : zH} : ∀ (n : Nat) (p0 : Nat) (p1 : Int32) (p2 : Int64) (p4 : Int32) (h : zH), f_X6_named_l3 E n p0 p1 p2 p4 h = some (r, h') → zW p l e R s m args below meth c D B0 5 (zEnd D B0 R below args s (zoI r) h') h 3 [(0, .ref p0), (1, .int p1), (2, .long p2), (4, .int p4)] [] := by
  intro n
  induction n with
  | zero =>
    intro p0 p1 p2 p4 h hf
    unfold f_X6_named_l3 at hf
    cases hf
  | succ n ih =>
    intro p0 p1 p2 p4 h hf
    unfold f_X6_named_l3 at hf
    refine zr_iload C0 dX6_named_3 3 rfl ?_
    refine zr_i2l C0 dX6_named_5 ?_
    refine zr_aload_n C0 dX6_named_6 rfl 0 rfl ?_
    obtain ⟨x1, e2, hf⟩ := zbind hf
    refine zr_get C0 fl_X6_9_X6 dX6_named_7 (zgR e2) ?_
    refine zr_sipush C0 (v := 5054) dX6_named_10 (by decide) ?_
    refine zr_iload_n C0 dX6_named_13 rfl 1 rfl ?_
    refine zr_imul C0 dX6_named_14 ?_
    refine zr_iconst C0 (v := 2) dX6_named_15 (by decide) ?_
    refine zr_iadd C0 dX6_named_16 ?_
    obtain ⟨x3, e4, hf⟩ := zbind hf
    refine zr_lald C0 dX6_named_17 e4 ?_
    refine zr_lcmp C0 dX6_named_18 ?_
    refine zr_if_ge C0 (tgt := 57) dX6_named_19 (by decide) (fun c5 => ?_) (fun c5 => ?_)
    · have hf := zif_t (zl_ge.mp c5) hf
      refine zr_iconst C0 (v := -1) dX6_named_57 (by decide) ?_
      refine zretW hf ?_
      exact zr_iret C0 (ty := .int) rfl rfl dX6_named_58 rfl
    · have hf := zif_f (zl_gen.mp c5) hf
      refine zr_aload_n C0 dX6_named_22 rfl 0 rfl ?_
      obtain ⟨x6, e7, hf⟩ := zbind hf
      refine zr_get C0 fl_X6_9_X6 dX6_named_23 (zgR e7) ?_
      refine zr_sipush C0 (v := 5054) dX6_named_26 (by decide) ?_
      refine zr_iload_n C0 dX6_named_29 rfl 1 rfl ?_
      refine zr_imul C0 dX6_named_30 ?_
      refine zr_bipush C0 (v := 58) dX6_named_31 (by decide) ?_
      refine zr_iadd C0 dX6_named_33 ?_
      refine zr_bipush C0 (v := 16) dX6_named_34 (by decide) ?_
      refine zr_iload C0 dX6_named_36 3 rfl ?_
      refine zr_imul C0 dX6_named_38 ?_
      refine zr_iadd C0 dX6_named_39 ?_
      refine zr_iconst C0 (v := 0) dX6_named_40 (by decide) ?_
      refine zr_iadd C0 dX6_named_41 ?_
      obtain ⟨x8, e9, hf⟩ := zbind hf
      refine zr_lald C0 dX6_named_42 e9 ?_
      refine zr_lload_n C0 dX6_named_43 rfl 2 rfl ?_
      refine zr_lcmp C0 dX6_named_44 ?_
      refine zr_if_ne C0 (tgt := 51) dX6_named_45 (by decide) (fun c10 => ?_) (fun c10 => ?_)
      · have hf := zif_f (zl_ne.mp c10) hf
        refine zr_iinc (lv' := [(4, .int (p4 + 1)), (0, .ref p0), (1, .int p1), (2, .long p2)]) C0 dX6_named_51 3 rfl rfl (by decide) (by first | rfl | simp [zst1, zst2, zcat_rf]) ?_
        refine zr_goto C0 (tgt := 3) dX6_named_54 (by decide) ?_
        refine zr_sub [1, 2, 3, 0] rfl ?_
        exact ih _ _ _ _ _ hf
      · have hf := zif_t (zl_nen.mp c10) hf
        refine zr_iload C0 dX6_named_48 3 rfl ?_
        refine zretW hf ?_
        exact zr_iret C0 (ty := .int) rfl rfl dX6_named_50 rfl
def f_X6_named_b0 (E : zE) (p0 : Nat) (p1 : Int32) (p2 : Int64) (h : zH) : Option (Int32 × zH) :=
  f_X6_named_l3 E E.1 p0 p1 p2 (0 : Int32) h
theorem w_X6_named_b0 (C0 : zCx p l e R s m args below meth c D B0 5 "FranchiseLedgerModel" cX6_named E 1 60 (Option.some Jvm.ClassFile.FieldType.int) "named") {r : Int32} {h' : zH} {p0 : Nat} {p1 : Int32} {p2 : Int64} {h : zH} (hf : f_X6_named_b0 E p0 p1 p2 h = some (r, h')) : zW p l e R s m args below meth c D B0 5 (zEnd D B0 R below args s (zoI r) h') h 0 [(0, .ref p0), (1, .int p1), (2, .long p2)] [] := by
  unfold f_X6_named_b0 at hf
  refine zr_iconst C0 (v := 0) dX6_named_0 (by decide) ?_
  refine zr_istore (i := 4) (lv' := [(4, .int (0 : Int32)), (0, .ref p0), (1, .int p1), (2, .long p2)]) C0 dX6_named_1 (by decide) (by first | rfl | simp [zst1, zst2, zcat_rf]) ?_
  refine zr_sub [1, 2, 3, 0] rfl ?_
  exact w_X6_named_l3 C0 _ _ _ _ _ _ hf
def f_X6_named (E : zE) (p0 : Nat) (p1 : Int32) (p2 : Int64) (h : zH) : Option (Int32 × zH) := f_X6_named_b0 E p0 p1 p2 h
theorem m_X6_named {l : Launch} (hst : l.stackTraces = false) {D : zD} {B0 : Nat} {E : zE} {p0 : Nat} {p1 : Int32} {p2 : Int64} {h h' : zH} {r : Int32} (hf : f_X6_named E p0 p1 p2 h = some (r, h')) : zMet l yX6_named (ws_ yX6_named cX6_named 5 (Option.some Jvm.ClassFile.FieldType.int)) 1 60 D B0 E [.ref p0, .int p1, .long p2] h (zoI r) h' := by
  unfold f_X6_named at hf
  refine zMet_of hst (by decide +kernel) rfl rfl (Nat.le_of_ble_eq_true rfl) (fun p e R s m below meth c C0 hno => ?_)
  show zW _ _ _ _ _ _ _ _ _ _ _ _ _ _ _ _ [(0, .ref p0), (1, .int p1), (2, .long p2)] []
  exact w_X6_named_b0 C0 hf
def f_X6_readFranchisee_b41 (E : zE) (p0 : Nat) (h : zH) : Option (Int32 × zH) :=
  (cko h p0 1).bind fun _ =>
  bnd2 (f_X6_fail E p0 (1 : Int32) h) fun x4 h2 =>
  (zgd .boolean x4).bind fun _ =>
  some (x4, h2)
theorem w_X6_readFranchisee_b41 (C0 : zCx p l e R s m args below meth c D B0 2 "FranchiseLedgerModel" cX6_readFranchisee E 6 173 (Option.some Jvm.ClassFile.FieldType.boolean) "readFranchisee") {r : Int32} {h' : zH} {p0 : Nat} {h : zH} (hf : f_X6_readFranchisee_b41 E p0 h = some (r, h')) : zW p l e R s m args below meth c D B0 2 (zEnd D B0 R below args s (zoI r) h') h 41 [(0, .ref p0)] [] := by
  unfold f_X6_readFranchisee_b41 at hf
  refine zr_aload_n C0 dX6_readFranchisee_41 rfl 0 rfl ?_
  refine zr_iconst C0 (v := 1) dX6_readFranchisee_42 (by decide) ?_
  obtain ⟨_, e1, hf⟩ := zbind hf
  obtain ⟨x4, h2, e3, hf⟩ := zbind2 hf
  refine zr_callV_r C0 cv_X6_339_X6 rfl (zcko e1) (m_X6_fail C0.2.2.2.2.2.2.1 e3) (by decide) (by decide) rfl rfl (Nat.le_of_ble_eq_true rfl) dX6_readFranchisee_43 rfl ?_
  obtain ⟨_, e5, hf⟩ := zbind hf
  refine zretW hf ?_
  exact zr_iret C0 (ty := .boolean) rfl (zgd_n e5) dX6_readFranchisee_46 rfl
def f_X6_readFranchisee_b137 (E : zE) (h : zH) : Option (Int32 × zH) :=
  some ((0 : Int32), h)
theorem w_X6_readFranchisee_b137 (C0 : zCx p l e R s m args below meth c D B0 2 "FranchiseLedgerModel" cX6_readFranchisee E 6 173 (Option.some Jvm.ClassFile.FieldType.boolean) "readFranchisee") {r : Int32} {h' : zH} {h : zH} (hf : f_X6_readFranchisee_b137 E  h = some (r, h')) : zW p l e R s m args below meth c D B0 2 (zEnd D B0 R below args s (zoI r) h') h 137 [] [] := by
  unfold f_X6_readFranchisee_b137 at hf
  refine zr_iconst C0 (v := 0) dX6_readFranchisee_137 (by decide) ?_
  refine zretW hf ?_
  exact zr_iret C0 (ty := .boolean) rfl (by decide) dX6_readFranchisee_138 rfl
def f_X6_readFranchisee_b0 (E : zE) (p0 : Nat) (h : zH) : Option (Int32 × zH) :=
  (gR h p0 1 0).bind fun x1 =>
  (dL h x1 (15164 : Int32)).bind fun x3 =>
  if x3 = (8 : Int64) then (
    (cko h p0 1).bind fun _ =>
    bnd2 (f_X6_fail E p0 (4 : Int32) h) fun x72 h70 =>
    (zgd .boolean x72).bind fun _ =>
    some (x72, h70)
  ) else (
    (cko h p0 1).bind fun _ =>
    bnd2 (f_X6_advance E p0 h) fun x9 h7 =>
    (gI h7 p0 1 13).bind fun x10 =>
    if x10 = (1 : Int32) then (
      (cko h7 p0 1).bind fun _ =>
      bnd2 (f_X6_statement E p0 h7) fun x16 h14 =>
      if x16 = (-1 : Int32) then (
        (gL h14 p0 1 16).bind fun x18 =>
        (cko h14 p0 1).bind fun _ =>
        bnd2 (f_X6_named E p0 (3 : Int32) x18 h14) fun x23 h21 =>
        if x23 = (-1 : Int32) then (
          (gR h21 p0 1 0).bind fun x25 =>
          (dL h21 x25 (15164 : Int32)).bind fun x27 =>
          (gR h21 p0 1 0).bind fun x29 =>
          (gL h21 p0 1 16).bind fun x31 =>
          (sL h21 x29 (((15220 : Int32) + ((16 : Int32) * (x27.toInt32))) + (0 : Int32)) x31).bind fun h33 =>
          (cko h33 p0 1).bind fun _ =>
          bnd2 (f_X6_advance E p0 h33) fun x38 h36 =>
          (gR h36 p0 1 0).bind fun x39 =>
          (dL h36 x39 (15163 : Int32)).bind fun x41 =>
          (cko h36 p0 1).bind fun _ =>
          bnd2 (f_X6_readInto E p0 (((15220 : Int32) + ((16 : Int32) * (x27.toInt32))) + (1 : Int32)) (0 : Int32) ((x41.toInt32) - (1 : Int32)) (1 : Int64) h36) fun x46 h44 =>
          if x46 = 0 then (
            f_X6_readFranchisee_b137 E  h44
          ) else (
            (cko h44 p0 1).bind fun _ =>
            bnd2 (f_X6_readInto E p0 (((15220 : Int32) + ((16 : Int32) * (x27.toInt32))) + (2 : Int32)) (0 : Int32) (999 : Int32) (1 : Int64) h44) fun x51 h49 =>
            if x51 = 0 then (
              f_X6_readFranchisee_b137 E  h49
            ) else (
              (gR h49 p0 1 0).bind fun x53 =>
              (dL h49 x53 (15164 : Int32)).bind fun x55 =>
              (sL h49 x53 (15164 : Int32) (x55 + (1 : Int64))).bind fun h57 =>
              (cko h57 p0 1).bind fun _ =>
              bnd2 (f_X6_readEnd E p0 h57) fun x62 h60 =>
              (zgd .boolean x62).bind fun _ =>
              some (x62, h60)
            )
          )
        ) else (
          (cko h21 p0 1).bind fun _ =>
          bnd2 (f_X6_fail E p0 (3 : Int32) h21) fun x67 h65 =>
          (zgd .boolean x67).bind fun _ =>
          some (x67, h65)
        )
      ) else (
        f_X6_readFranchisee_b41 E p0 h14
      )
    ) else (
      f_X6_readFranchisee_b41 E p0 h7
    )
  )
theorem w_X6_readFranchisee_b0 (C0 : zCx p l e R s m args below meth c D B0 2 "FranchiseLedgerModel" cX6_readFranchisee E 6 173 (Option.some Jvm.ClassFile.FieldType.boolean) "readFranchisee") {r : Int32} {h' : zH} {p0 : Nat} {h : zH} (hf : f_X6_readFranchisee_b0 E p0 h = some (r, h')) : zW p l e R s m args below meth c D B0 2 (zEnd D B0 R below args s (zoI r) h') h 0 [(0, .ref p0)] [] := by
  unfold f_X6_readFranchisee_b0 at hf
  refine zr_aload_n C0 dX6_readFranchisee_0 rfl 0 rfl ?_
  obtain ⟨x1, e2, hf⟩ := zbind hf
  refine zr_get C0 fl_X6_9_X6 dX6_readFranchisee_1 (zgR e2) ?_
  refine zr_sipush C0 (v := 15164) dX6_readFranchisee_4 (by decide) ?_
  obtain ⟨x3, e4, hf⟩ := zbind hf
  refine zr_lald C0 dX6_readFranchisee_7 e4 ?_
  refine zr_ldc2 C0 (v := 8) q3148 dX6_readFranchisee_8 ?_
  refine zr_lcmp C0 dX6_readFranchisee_11 ?_
  refine zr_if_ne C0 (tgt := 21) dX6_readFranchisee_12 (by decide) (fun c5 => ?_) (fun c5 => ?_)
  · have hf := zif_f (zl_ne.mp c5) hf
    refine zr_aload_n C0 dX6_readFranchisee_21 rfl 0 rfl ?_
    obtain ⟨_, e6, hf⟩ := zbind hf
    obtain ⟨x9, h7, e8, hf⟩ := zbind2 hf
    refine zr_callV_r C0 cv_X6_345_X6 rfl (zcko e6) (m_X6_advance C0.2.2.2.2.2.2.1 e8) (by decide) (by decide) rfl rfl (Nat.le_of_ble_eq_true rfl) dX6_readFranchisee_22 rfl ?_
    refine zr_aload_n C0 dX6_readFranchisee_25 rfl 0 rfl ?_
    obtain ⟨x10, e11, hf⟩ := zbind hf
    refine zr_get C0 fl_X6_332_X6 dX6_readFranchisee_26 (zgI e11) ?_
    refine zr_iconst C0 (v := 1) dX6_readFranchisee_29 (by decide) ?_
    refine zr_icmp_ne C0 (tgt := 41) dX6_readFranchisee_30 (by decide) (fun c12 => ?_) (fun c12 => ?_)
    · have hf := zif_f c12 hf
      exact w_X6_readFranchisee_b41 C0 hf
    · have hf := zif_t c12 hf
      refine zr_aload_n C0 dX6_readFranchisee_33 rfl 0 rfl ?_
      obtain ⟨_, e13, hf⟩ := zbind hf
      obtain ⟨x16, h14, e15, hf⟩ := zbind2 hf
      refine zr_callV_r C0 cv_X6_366_X6 rfl (zcko e13) (m_X6_statement C0.2.2.2.2.2.2.1 e15) (by decide) (by decide) rfl rfl (Nat.le_of_ble_eq_true rfl) dX6_readFranchisee_34 rfl ?_
      refine zr_iconst C0 (v := -1) dX6_readFranchisee_37 (by decide) ?_
      refine zr_icmp_eq C0 (tgt := 47) dX6_readFranchisee_38 (by decide) (fun c17 => ?_) (fun c17 => ?_)
      · have hf := zif_t c17 hf
        refine zr_aload_n C0 dX6_readFranchisee_47 rfl 0 rfl ?_
        refine zr_iconst C0 (v := 3) dX6_readFranchisee_48 (by decide) ?_
        refine zr_aload_n C0 dX6_readFranchisee_49 rfl 0 rfl ?_
        obtain ⟨x18, e19, hf⟩ := zbind hf
        refine zr_get C0 fl_X6_322_X6 dX6_readFranchisee_50 (zgL e19) ?_
        obtain ⟨_, e20, hf⟩ := zbind hf
        obtain ⟨x23, h21, e22, hf⟩ := zbind2 hf
        refine zr_callV_r C0 cv_X6_370_X6 rfl (zcko e20) (m_X6_named C0.2.2.2.2.2.2.1 e22) (by decide) (by decide) rfl rfl (Nat.le_of_ble_eq_true rfl) dX6_readFranchisee_53 rfl ?_
        refine zr_iconst C0 (v := -1) dX6_readFranchisee_56 (by decide) ?_
        refine zr_icmp_eq C0 (tgt := 66) dX6_readFranchisee_57 (by decide) (fun c24 => ?_) (fun c24 => ?_)
        · have hf := zif_t c24 hf
          refine zr_sipush C0 (v := 15220) dX6_readFranchisee_66 (by decide) ?_
          refine zr_bipush C0 (v := 16) dX6_readFranchisee_69 (by decide) ?_
          refine zr_aload_n C0 dX6_readFranchisee_71 rfl 0 rfl ?_
          obtain ⟨x25, e26, hf⟩ := zbind hf
          refine zr_get C0 fl_X6_9_X6 dX6_readFranchisee_72 (zgR e26) ?_
          refine zr_sipush C0 (v := 15164) dX6_readFranchisee_75 (by decide) ?_
          obtain ⟨x27, e28, hf⟩ := zbind hf
          refine zr_lald C0 dX6_readFranchisee_78 e28 ?_
          refine zr_l2i C0 dX6_readFranchisee_79 ?_
          refine zr_imul C0 dX6_readFranchisee_80 ?_
          refine zr_iadd C0 dX6_readFranchisee_81 ?_
          refine zr_istore_n (i := 1) (lv' := [(1, .int ((15220 : Int32) + ((16 : Int32) * (x27.toInt32)))), (0, .ref p0)]) C0 dX6_readFranchisee_82 rfl (by decide) (by first | rfl | simp [zst1, zst2, zcat_rf]) ?_
          refine zr_aload_n C0 dX6_readFranchisee_83 rfl 1 rfl ?_
          obtain ⟨x29, e30, hf⟩ := zbind hf
          refine zr_get C0 fl_X6_9_X6 dX6_readFranchisee_84 (zgR e30) ?_
          refine zr_iload_n C0 dX6_readFranchisee_87 rfl 0 rfl ?_
          refine zr_iconst C0 (v := 0) dX6_readFranchisee_88 (by decide) ?_
          refine zr_iadd C0 dX6_readFranchisee_89 ?_
          refine zr_aload_n C0 dX6_readFranchisee_90 rfl 1 rfl ?_
          obtain ⟨x31, e32, hf⟩ := zbind hf
          refine zr_get C0 fl_X6_322_X6 dX6_readFranchisee_91 (zgL e32) ?_
          obtain ⟨h33, e34, hf⟩ := zbind hf
          refine zr_last C0 dX6_readFranchisee_94 e34 ?_
          refine zr_aload_n C0 dX6_readFranchisee_95 rfl 1 rfl ?_
          obtain ⟨_, e35, hf⟩ := zbind hf
          obtain ⟨x38, h36, e37, hf⟩ := zbind2 hf
          refine zr_callV_r C0 cv_X6_345_X6 rfl (zcko e35) (m_X6_advance C0.2.2.2.2.2.2.1 e37) (by decide) (by decide) rfl rfl (Nat.le_of_ble_eq_true rfl) dX6_readFranchisee_96 rfl ?_
          refine zr_aload_n C0 dX6_readFranchisee_99 rfl 1 rfl ?_
          refine zr_iload_n C0 dX6_readFranchisee_100 rfl 0 rfl ?_
          refine zr_iconst C0 (v := 1) dX6_readFranchisee_101 (by decide) ?_
          refine zr_iadd C0 dX6_readFranchisee_102 ?_
          refine zr_iconst C0 (v := 0) dX6_readFranchisee_103 (by decide) ?_
          refine zr_aload_n C0 dX6_readFranchisee_104 rfl 1 rfl ?_
          obtain ⟨x39, e40, hf⟩ := zbind hf
          refine zr_get C0 fl_X6_9_X6 dX6_readFranchisee_105 (zgR e40) ?_
          refine zr_sipush C0 (v := 15163) dX6_readFranchisee_108 (by decide) ?_
          obtain ⟨x41, e42, hf⟩ := zbind hf
          refine zr_lald C0 dX6_readFranchisee_111 e42 ?_
          refine zr_l2i C0 dX6_readFranchisee_112 ?_
          refine zr_iconst C0 (v := 1) dX6_readFranchisee_113 (by decide) ?_
          refine zr_isub C0 dX6_readFranchisee_114 ?_
          refine zr_lconst C0 (v := 1) dX6_readFranchisee_115 (by decide) ?_
          obtain ⟨_, e43, hf⟩ := zbind hf
          obtain ⟨x46, h44, e45, hf⟩ := zbind2 hf
          refine zr_callV_r C0 cv_X6_355_X6 rfl (zcko e43) (m_X6_readInto C0.2.2.2.2.2.2.1 e45) (by decide) (by decide) rfl rfl (Nat.le_of_ble_eq_true rfl) dX6_readFranchisee_116 rfl ?_
          refine zr_if_eq C0 (tgt := 137) dX6_readFranchisee_119 (by decide) (fun c47 => ?_) (fun c47 => ?_)
          · have hf := zif_t c47 hf
            refine zr_sub [] rfl ?_
            exact w_X6_readFranchisee_b137 C0 hf
          · have hf := zif_f c47 hf
            refine zr_aload_n C0 dX6_readFranchisee_122 rfl 1 rfl ?_
            refine zr_iload_n C0 dX6_readFranchisee_123 rfl 0 rfl ?_
            refine zr_iconst C0 (v := 2) dX6_readFranchisee_124 (by decide) ?_
            refine zr_iadd C0 dX6_readFranchisee_125 ?_
            refine zr_iconst C0 (v := 0) dX6_readFranchisee_126 (by decide) ?_
            refine zr_sipush C0 (v := 999) dX6_readFranchisee_127 (by decide) ?_
            refine zr_lconst C0 (v := 1) dX6_readFranchisee_130 (by decide) ?_
            obtain ⟨_, e48, hf⟩ := zbind hf
            obtain ⟨x51, h49, e50, hf⟩ := zbind2 hf
            refine zr_callV_r C0 cv_X6_355_X6 rfl (zcko e48) (m_X6_readInto C0.2.2.2.2.2.2.1 e50) (by decide) (by decide) rfl rfl (Nat.le_of_ble_eq_true rfl) dX6_readFranchisee_131 rfl ?_
            refine zr_if_ne C0 (tgt := 139) dX6_readFranchisee_134 (by decide) (fun c52 => ?_) (fun c52 => ?_)
            · have hf := zif_f c52 hf
              refine zr_aload_n C0 dX6_readFranchisee_139 rfl 1 rfl ?_
              obtain ⟨x53, e54, hf⟩ := zbind hf
              refine zr_get C0 fl_X6_9_X6 dX6_readFranchisee_140 (zgR e54) ?_
              refine zr_sipush C0 (v := 15164) dX6_readFranchisee_143 (by decide) ?_
              refine zr_dup2_11 C0 dX6_readFranchisee_146 rfl rfl ?_
              obtain ⟨x55, e56, hf⟩ := zbind hf
              refine zr_lald C0 dX6_readFranchisee_147 e56 ?_
              refine zr_lconst C0 (v := 1) dX6_readFranchisee_148 (by decide) ?_
              refine zr_ladd C0 dX6_readFranchisee_149 ?_
              obtain ⟨h57, e58, hf⟩ := zbind hf
              refine zr_last C0 dX6_readFranchisee_150 e58 ?_
              refine zr_aload_n C0 dX6_readFranchisee_151 rfl 1 rfl ?_
              obtain ⟨_, e59, hf⟩ := zbind hf
              obtain ⟨x62, h60, e61, hf⟩ := zbind2 hf
              refine zr_callV_r C0 cv_X6_361_X6 rfl (zcko e59) (m_X6_readEnd C0.2.2.2.2.2.2.1 e61) (by decide) (by decide) rfl rfl (Nat.le_of_ble_eq_true rfl) dX6_readFranchisee_152 rfl ?_
              obtain ⟨_, e63, hf⟩ := zbind hf
              refine zretW hf ?_
              exact zr_iret C0 (ty := .boolean) rfl (zgd_n e63) dX6_readFranchisee_155 rfl
            · have hf := zif_t c52 hf
              refine zr_sub [] rfl ?_
              exact w_X6_readFranchisee_b137 C0 hf
        · have hf := zif_f c24 hf
          refine zr_aload_n C0 dX6_readFranchisee_60 rfl 0 rfl ?_
          refine zr_iconst C0 (v := 3) dX6_readFranchisee_61 (by decide) ?_
          obtain ⟨_, e64, hf⟩ := zbind hf
          obtain ⟨x67, h65, e66, hf⟩ := zbind2 hf
          refine zr_callV_r C0 cv_X6_339_X6 rfl (zcko e64) (m_X6_fail C0.2.2.2.2.2.2.1 e66) (by decide) (by decide) rfl rfl (Nat.le_of_ble_eq_true rfl) dX6_readFranchisee_62 rfl ?_
          obtain ⟨_, e68, hf⟩ := zbind hf
          refine zretW hf ?_
          exact zr_iret C0 (ty := .boolean) rfl (zgd_n e68) dX6_readFranchisee_65 rfl
      · have hf := zif_f c17 hf
        exact w_X6_readFranchisee_b41 C0 hf
  · have hf := zif_t (zl_nen.mp c5) hf
    refine zr_aload_n C0 dX6_readFranchisee_15 rfl 0 rfl ?_
    refine zr_iconst C0 (v := 4) dX6_readFranchisee_16 (by decide) ?_
    obtain ⟨_, e69, hf⟩ := zbind hf
    obtain ⟨x72, h70, e71, hf⟩ := zbind2 hf
    refine zr_callV_r C0 cv_X6_339_X6 rfl (zcko e69) (m_X6_fail C0.2.2.2.2.2.2.1 e71) (by decide) (by decide) rfl rfl (Nat.le_of_ble_eq_true rfl) dX6_readFranchisee_17 rfl ?_
    obtain ⟨_, e73, hf⟩ := zbind hf
    refine zretW hf ?_
    exact zr_iret C0 (ty := .boolean) rfl (zgd_n e73) dX6_readFranchisee_20 rfl
def f_X6_readFranchisee (E : zE) (p0 : Nat) (h : zH) : Option (Int32 × zH) := f_X6_readFranchisee_b0 E p0 h
theorem m_X6_readFranchisee {l : Launch} (hst : l.stackTraces = false) {D : zD} {B0 : Nat} {E : zE} {p0 : Nat} {h h' : zH} {r : Int32} (hf : f_X6_readFranchisee E p0 h = some (r, h')) : zMet l yX6_readFranchisee (ws_ yX6_readFranchisee cX6_readFranchisee 2 (Option.some Jvm.ClassFile.FieldType.boolean)) 6 173 D B0 E [.ref p0] h (zoI r) h' := by
  unfold f_X6_readFranchisee at hf
  refine zMet_of hst (by decide +kernel) rfl rfl (Nat.le_of_ble_eq_true rfl) (fun p e R s m below meth c C0 hno => ?_)
  show zW _ _ _ _ _ _ _ _ _ _ _ _ _ _ _ _ [(0, .ref p0)] []
  exact w_X6_readFranchisee_b0 C0 hf
def f_X6_readName_b66 (E : zE) (p3 : Int32) (h : zH) : Option (Int32 × zH) :=
  some (p3, h)
theorem w_X6_readName_b66 (C0 : zCx p l e R s m args below meth c D B0 4 "FranchiseLedgerModel" cX6_readName E 4 126 (Option.some Jvm.ClassFile.FieldType.int) "readName") {r : Int32} {h' : zH} {p3 : Int32} {h : zH} (hf : f_X6_readName_b66 E p3 h = some (r, h')) : zW p l e R s m args below meth c D B0 4 (zEnd D B0 R below args s (zoI r) h') h 66 [(3, .int p3)] [] := by
  unfold f_X6_readName_b66 at hf
  refine zr_iload_n C0 dX6_readName_66 rfl 0 rfl ?_
  refine zretW hf ?_
  exact zr_iret C0 (ty := .int) rfl rfl dX6_readName_67 rfl
def f_X6_readName_b55 (E : zE) (p3 : Int32) (s0 : Nat) (s1 : Int32) (h : zH) : Option (Int32 × zH) :=
  (cko h s0 1).bind fun _ =>
  bnd2 (f_X6_fail E s0 s1 h) fun x4 h2 =>
  f_X6_readName_b66 E p3 h2
theorem w_X6_readName_b55 (C0 : zCx p l e R s m args below meth c D B0 4 "FranchiseLedgerModel" cX6_readName E 4 126 (Option.some Jvm.ClassFile.FieldType.int) "readName") {r : Int32} {h' : zH} {p3 : Int32} {s0 : Nat} {s1 : Int32} {h : zH} (hf : f_X6_readName_b55 E p3 s0 s1 h = some (r, h')) : zW p l e R s m args below meth c D B0 4 (zEnd D B0 R below args s (zoI r) h') h 55 [(3, .int p3)] [.int s1, .ref s0] := by
  unfold f_X6_readName_b55 at hf
  obtain ⟨_, e1, hf⟩ := zbind hf
  obtain ⟨x4, h2, e3, hf⟩ := zbind2 hf
  refine zr_callV_r C0 cv_X6_339_X6 rfl (zcko e1) (m_X6_fail C0.2.2.2.2.2.2.1 e3) (by decide) (by decide) rfl rfl (Nat.le_of_ble_eq_true rfl) dX6_readName_55 rfl ?_
  refine zr_pop C0 dX6_readName_58 rfl ?_
  refine zr_goto C0 (tgt := 66) dX6_readName_59 (by decide) ?_
  exact w_X6_readName_b66 C0 hf
def f_X6_readName_b39 (E : zE) (p0 : Nat) (p2 : Int32) (s0 : Int32) (h : zH) : Option (Int32 × zH) :=
  if s0 = (-1 : Int32) then (
    if p2 = 0 then (
      f_X6_readName_b55 E s0 p0 (1 : Int32) h
    ) else (
      f_X6_readName_b55 E s0 p0 (3 : Int32) h
    )
  ) else (
    (cko h p0 1).bind fun _ =>
    bnd2 (f_X6_advance E p0 h) fun x5 h3 =>
    f_X6_readName_b66 E s0 h3
  )
theorem w_X6_readName_b39 (C0 : zCx p l e R s m args below meth c D B0 4 "FranchiseLedgerModel" cX6_readName E 4 126 (Option.some Jvm.ClassFile.FieldType.int) "readName") {r : Int32} {h' : zH} {p0 : Nat} {p2 : Int32} {s0 : Int32} {h : zH} (hf : f_X6_readName_b39 E p0 p2 s0 h = some (r, h')) : zW p l e R s m args below meth c D B0 4 (zEnd D B0 R below args s (zoI r) h') h 39 [(0, .ref p0), (2, .int p2)] [.int s0] := by
  unfold f_X6_readName_b39 at hf
  refine zr_istore_n (i := 3) (lv' := [(3, .int s0), (0, .ref p0), (2, .int p2)]) C0 dX6_readName_39 rfl (by decide) (by first | rfl | simp [zst1, zst2, zcat_rf]) ?_
  refine zr_iload_n C0 dX6_readName_40 rfl 0 rfl ?_
  refine zr_iconst C0 (v := -1) dX6_readName_41 (by decide) ?_
  refine zr_icmp_ne C0 (tgt := 62) dX6_readName_42 (by decide) (fun c1 => ?_) (fun c1 => ?_)
  · have hf := zif_f c1 hf
    refine zr_aload_n C0 dX6_readName_62 rfl 1 rfl ?_
    obtain ⟨_, e2, hf⟩ := zbind hf
    obtain ⟨x5, h3, e4, hf⟩ := zbind2 hf
    refine zr_callV_r C0 cv_X6_345_X6 rfl (zcko e2) (m_X6_advance C0.2.2.2.2.2.2.1 e4) (by decide) (by decide) rfl rfl (Nat.le_of_ble_eq_true rfl) dX6_readName_63 rfl ?_
    refine zr_sub [0] rfl ?_
    exact w_X6_readName_b66 C0 hf
  · have hf := zif_t c1 hf
    refine zr_aload_n C0 dX6_readName_45 rfl 1 rfl ?_
    refine zr_iload_n C0 dX6_readName_46 rfl 2 rfl ?_
    refine zr_if_eq C0 (tgt := 54) dX6_readName_47 (by decide) (fun c6 => ?_) (fun c6 => ?_)
    · have hf := zif_t c6 hf
      refine zr_iconst C0 (v := 1) dX6_readName_54 (by decide) ?_
      refine zr_sub [0] rfl ?_
      exact w_X6_readName_b55 C0 hf
    · have hf := zif_f c6 hf
      refine zr_iconst C0 (v := 3) dX6_readName_50 (by decide) ?_
      refine zr_goto C0 (tgt := 55) dX6_readName_51 (by decide) ?_
      refine zr_sub [0] rfl ?_
      exact w_X6_readName_b55 C0 hf
def f_X6_readName_b21 (E : zE) (p0 : Nat) (p1 : Int32) (s0 : Int32) (h : zH) : Option (Int32 × zH) :=
  if s0 = 0 then (
    f_X6_readName_b39 E p0 s0 (-1 : Int32) h
  ) else (
    (gL h p0 1 16).bind fun x2 =>
    (cko h p0 1).bind fun _ =>
    bnd2 (f_X6_named E p0 p1 x2 h) fun x7 h5 =>
    f_X6_readName_b39 E p0 s0 x7 h5
  )
theorem w_X6_readName_b21 (C0 : zCx p l e R s m args below meth c D B0 4 "FranchiseLedgerModel" cX6_readName E 4 126 (Option.some Jvm.ClassFile.FieldType.int) "readName") {r : Int32} {h' : zH} {p0 : Nat} {p1 : Int32} {s0 : Int32} {h : zH} (hf : f_X6_readName_b21 E p0 p1 s0 h = some (r, h')) : zW p l e R s m args below meth c D B0 4 (zEnd D B0 R below args s (zoI r) h') h 21 [(0, .ref p0), (1, .int p1)] [.int s0] := by
  unfold f_X6_readName_b21 at hf
  refine zr_istore_n (i := 2) (lv' := [(2, .int s0), (0, .ref p0), (1, .int p1)]) C0 dX6_readName_21 rfl (by decide) (by first | rfl | simp [zst1, zst2, zcat_rf]) ?_
  refine zr_iload_n C0 dX6_readName_22 rfl 0 rfl ?_
  refine zr_if_eq C0 (tgt := 38) dX6_readName_23 (by decide) (fun c1 => ?_) (fun c1 => ?_)
  · have hf := zif_t c1 hf
    refine zr_iconst C0 (v := -1) dX6_readName_38 (by decide) ?_
    refine zr_sub [1, 0] rfl ?_
    exact w_X6_readName_b39 C0 hf
  · have hf := zif_f c1 hf
    refine zr_aload_n C0 dX6_readName_26 rfl 1 rfl ?_
    refine zr_iload_n C0 dX6_readName_27 rfl 2 rfl ?_
    refine zr_aload_n C0 dX6_readName_28 rfl 1 rfl ?_
    obtain ⟨x2, e3, hf⟩ := zbind hf
    refine zr_get C0 fl_X6_322_X6 dX6_readName_29 (zgL e3) ?_
    obtain ⟨_, e4, hf⟩ := zbind hf
    obtain ⟨x7, h5, e6, hf⟩ := zbind2 hf
    refine zr_callV_r C0 cv_X6_370_X6 rfl (zcko e4) (m_X6_named C0.2.2.2.2.2.2.1 e6) (by decide) (by decide) rfl rfl (Nat.le_of_ble_eq_true rfl) dX6_readName_32 rfl ?_
    refine zr_goto C0 (tgt := 39) dX6_readName_35 (by decide) ?_
    refine zr_sub [1, 0] rfl ?_
    exact w_X6_readName_b39 C0 hf
def f_X6_readName_b20 (E : zE) (p0 : Nat) (p1 : Int32) (h : zH) : Option (Int32 × zH) :=
  f_X6_readName_b21 E p0 p1 (0 : Int32) h
theorem w_X6_readName_b20 (C0 : zCx p l e R s m args below meth c D B0 4 "FranchiseLedgerModel" cX6_readName E 4 126 (Option.some Jvm.ClassFile.FieldType.int) "readName") {r : Int32} {h' : zH} {p0 : Nat} {p1 : Int32} {h : zH} (hf : f_X6_readName_b20 E p0 p1 h = some (r, h')) : zW p l e R s m args below meth c D B0 4 (zEnd D B0 R below args s (zoI r) h') h 20 [(0, .ref p0), (1, .int p1)] [] := by
  unfold f_X6_readName_b20 at hf
  refine zr_iconst C0 (v := 0) dX6_readName_20 (by decide) ?_
  exact w_X6_readName_b21 C0 hf
def f_X6_readName_b0 (E : zE) (p0 : Nat) (p1 : Int32) (h : zH) : Option (Int32 × zH) :=
  (gI h p0 1 13).bind fun x1 =>
  if x1 = (1 : Int32) then (
    (cko h p0 1).bind fun _ =>
    bnd2 (f_X6_statement E p0 h) fun x7 h5 =>
    if x7 = (-1 : Int32) then (
      f_X6_readName_b21 E p0 p1 (1 : Int32) h5
    ) else (
      f_X6_readName_b20 E p0 p1 h5
    )
  ) else (
    f_X6_readName_b20 E p0 p1 h
  )
theorem w_X6_readName_b0 (C0 : zCx p l e R s m args below meth c D B0 4 "FranchiseLedgerModel" cX6_readName E 4 126 (Option.some Jvm.ClassFile.FieldType.int) "readName") {r : Int32} {h' : zH} {p0 : Nat} {p1 : Int32} {h : zH} (hf : f_X6_readName_b0 E p0 p1 h = some (r, h')) : zW p l e R s m args below meth c D B0 4 (zEnd D B0 R below args s (zoI r) h') h 0 [(0, .ref p0), (1, .int p1)] [] := by
  unfold f_X6_readName_b0 at hf
  refine zr_aload_n C0 dX6_readName_0 rfl 0 rfl ?_
  obtain ⟨x1, e2, hf⟩ := zbind hf
  refine zr_get C0 fl_X6_332_X6 dX6_readName_1 (zgI e2) ?_
  refine zr_iconst C0 (v := 1) dX6_readName_4 (by decide) ?_
  refine zr_icmp_ne C0 (tgt := 20) dX6_readName_5 (by decide) (fun c3 => ?_) (fun c3 => ?_)
  · have hf := zif_f c3 hf
    exact w_X6_readName_b20 C0 hf
  · have hf := zif_t c3 hf
    refine zr_aload_n C0 dX6_readName_8 rfl 0 rfl ?_
    obtain ⟨_, e4, hf⟩ := zbind hf
    obtain ⟨x7, h5, e6, hf⟩ := zbind2 hf
    refine zr_callV_r C0 cv_X6_366_X6 rfl (zcko e4) (m_X6_statement C0.2.2.2.2.2.2.1 e6) (by decide) (by decide) rfl rfl (Nat.le_of_ble_eq_true rfl) dX6_readName_9 rfl ?_
    refine zr_iconst C0 (v := -1) dX6_readName_12 (by decide) ?_
    refine zr_icmp_ne C0 (tgt := 20) dX6_readName_13 (by decide) (fun c8 => ?_) (fun c8 => ?_)
    · have hf := zif_f c8 hf
      exact w_X6_readName_b20 C0 hf
    · have hf := zif_t c8 hf
      refine zr_iconst C0 (v := 1) dX6_readName_16 (by decide) ?_
      refine zr_goto C0 (tgt := 21) dX6_readName_17 (by decide) ?_
      exact w_X6_readName_b21 C0 hf
def f_X6_readName (E : zE) (p0 : Nat) (p1 : Int32) (h : zH) : Option (Int32 × zH) := f_X6_readName_b0 E p0 p1 h
theorem m_X6_readName {l : Launch} (hst : l.stackTraces = false) {D : zD} {B0 : Nat} {E : zE} {p0 : Nat} {p1 : Int32} {h h' : zH} {r : Int32} (hf : f_X6_readName E p0 p1 h = some (r, h')) : zMet l yX6_readName (ws_ yX6_readName cX6_readName 4 (Option.some Jvm.ClassFile.FieldType.int)) 4 126 D B0 E [.ref p0, .int p1] h (zoI r) h' := by
  unfold f_X6_readName at hf
  refine zMet_of hst (by decide +kernel) rfl rfl (Nat.le_of_ble_eq_true rfl) (fun p e R s m below meth c C0 hno => ?_)
  show zW _ _ _ _ _ _ _ _ _ _ _ _ _ _ _ _ [(0, .ref p0), (1, .int p1)] []
  exact w_X6_readName_b0 C0 hf
def f_X6_hasOther_b62 (E : zE) (k3 : Nat → Int32 → Int32 → Int32 → Int32 → Int32 → Int32 → zH → Option (Int32 × zH)) (p0 : Nat) (p1 : Int32) (p2 : Int32) (p3 : Int32) (p4 : Int32) (p5 : Int32) (p6 : Int32) (h : zH) : Option (Int32 × zH) :=
  k3 p0 p1 p2 p3 p4 p5 (p6 + 1) h
theorem w_X6_hasOther_b62 (C0 : zCx p l e R s m args below meth c D B0 7 "FranchiseLedgerModel" cX6_hasOther E 2 84 (Option.some Jvm.ClassFile.FieldType.boolean) "hasOther") {r : Int32} {h' : zH} {k3 : Nat → Int32 → Int32 → Int32 → Int32 → Int32 → Int32 → zH → Option (Int32 × zH)} (hk3 : ∀ (p0 : Nat) (p1 : Int32) (p2 : Int32) (p3 : Int32) (p4 : Int32) (p5 : Int32) (p6 : Int32) (h : zH), k3 p0 p1 p2 p3 p4 p5 p6 h = some (r, h') → zW p l e R s m args below meth c D B0 7 (zEnd D B0 R below args s (zoI r) h') h 3 [(0, .ref p0), (1, .int p1), (2, .int p2), (3, .int p3), (4, .int p4), (5, .int p5), (6, .int p6)] []) {p0 : Nat} {p1 : Int32} {p2 : Int32} {p3 : Int32} {p4 : Int32} {p5 : Int32} {p6 : Int32} {h : zH} (hf : f_X6_hasOther_b62 E k3 p0 p1 p2 p3 p4 p5 p6 h = some (r, h')) : zW p l e R s m args below meth c D B0 7 (zEnd D B0 R below args s (zoI r) h') h 62 [(0, .ref p0), (1, .int p1), (2, .int p2), (3, .int p3), (4, .int p4), (5, .int p5), (6, .int p6)] [] := by
  unfold f_X6_hasOther_b62 at hf
  refine zr_iinc (lv' := [(6, .int (p6 + 1)), (0, .ref p0), (1, .int p1), (2, .int p2), (3, .int p3), (4, .int p4), (5, .int p5)]) C0 dX6_hasOther_62 6 rfl rfl (by decide) (by first | rfl | simp [zst1, zst2, zcat_rf]) ?_
  refine zr_goto C0 (tgt := 3) dX6_hasOther_65 (by decide) ?_
  refine zr_sub [1, 2, 3, 4, 5, 6, 0] rfl ?_
  exact hk3 _ _ _ _ _ _ _ _ hf
def f_X6_hasOther_l3 (E : zE) : Nat → Nat → Int32 → Int32 → Int32 → Int32 → Int32 → Int32 → zH → Option (Int32 × zH)
  | 0, _, _, _, _, _, _, _, _ => none
  | n + 1, p0, p1, p2, p3, p4, p5, p6, h =>
    if (900 : Int32) ≤ p6 then (
      some ((0 : Int32), h)
    ) else (
      bnd2 (f_X6_isWithin E p6 p2 p3 p4 p5 h) fun x4 h2 =>
      if x4 = 0 then (
        f_X6_hasOther_b62 E (f_X6_hasOther_l3 E n) p0 p1 p2 p3 p4 p5 p6 h2
      ) else (
        (gR h2 p0 1 0).bind fun x6 =>
        (dL h2 x6 ((15412 : Int32) + p6)).bind fun x8 =>
        if x8 = (-1 : Int64) then (
          f_X6_hasOther_b62 E (f_X6_hasOther_l3 E n) p0 p1 p2 p3 p4 p5 p6 h2
        ) else (
          (gR h2 p0 1 0).bind fun x11 =>
          (dL h2 x11 ((15412 : Int32) + p6)).bind fun x13 =>
          if x13 = (p1.toInt64) then (
            f_X6_hasOther_b62 E (f_X6_hasOther_l3 E n) p0 p1 p2 p3 p4 p5 p6 h2
          ) else (
            some ((1 : Int32), h2)
          )
        )
      )
    )
theorem w_X6_hasOther_l3 (C0 : zCx p l e R s m args below meth c D B0 7 "FranchiseLedgerModel" cX6_hasOther E 2 84 (Option.some Jvm.ClassFile.FieldType.boolean) "hasOther") {r : Int32} {h' : zH} : ∀ (n : Nat) (p0 : Nat) (p1 : Int32) (p2 : Int32) (p3 : Int32) (p4 : Int32) (p5 : Int32) (p6 : Int32) (h : zH), f_X6_hasOther_l3 E n p0 p1 p2 p3 p4 p5 p6 h = some (r, h') → zW p l e R s m args below meth c D B0 7 (zEnd D B0 R below args s (zoI r) h') h 3 [(0, .ref p0), (1, .int p1), (2, .int p2), (3, .int p3), (4, .int p4), (5, .int p5), (6, .int p6)] [] := by
  intro n
  induction n with
  | zero =>
    intro p0 p1 p2 p3 p4 p5 p6 h hf
    unfold f_X6_hasOther_l3 at hf
    cases hf
  | succ n ih =>
    intro p0 p1 p2 p3 p4 p5 p6 h hf
    unfold f_X6_hasOther_l3 at hf
    refine zr_iload C0 dX6_hasOther_3 6 rfl ?_
    refine zr_sipush C0 (v := 900) dX6_hasOther_5 (by decide) ?_
    refine zr_icmp_ge C0 (tgt := 68) dX6_hasOther_8 (by decide) (fun c1 => ?_) (fun c1 => ?_)
    · have hf := zif_t c1 hf
      refine zr_iconst C0 (v := 0) dX6_hasOther_68 (by decide) ?_
      refine zretW hf ?_
      exact zr_iret C0 (ty := .boolean) rfl (by decide) dX6_hasOther_69 rfl
    · have hf := zif_f c1 hf
      refine zr_iload C0 dX6_hasOther_11 6 rfl ?_
      refine zr_iload_n C0 dX6_hasOther_13 rfl 2 rfl ?_
      refine zr_iload_n C0 dX6_hasOther_14 rfl 3 rfl ?_
      refine zr_iload C0 dX6_hasOther_15 4 rfl ?_
      refine zr_iload C0 dX6_hasOther_17 5 rfl ?_
      obtain ⟨x4, h2, e3, hf⟩ := zbind2 hf
      refine zr_callS_r C0 cv_X6_131 (m_X6_isWithin C0.2.2.2.2.2.2.1 e3) (by decide) (by decide) rfl rfl (Nat.le_of_ble_eq_true rfl) dX6_hasOther_19 rfl ?_
      refine zr_if_eq C0 (tgt := 62) dX6_hasOther_22 (by decide) (fun c5 => ?_) (fun c5 => ?_)
      · have hf := zif_t c5 hf
        exact w_X6_hasOther_b62 C0 ih hf
      · have hf := zif_f c5 hf
        refine zr_aload_n C0 dX6_hasOther_25 rfl 0 rfl ?_
        obtain ⟨x6, e7, hf⟩ := zbind hf
        refine zr_get C0 fl_X6_9_X6 dX6_hasOther_26 (zgR e7) ?_
        refine zr_sipush C0 (v := 15412) dX6_hasOther_29 (by decide) ?_
        refine zr_iload C0 dX6_hasOther_32 6 rfl ?_
        refine zr_iadd C0 dX6_hasOther_34 ?_
        obtain ⟨x8, e9, hf⟩ := zbind hf
        refine zr_lald C0 dX6_hasOther_35 e9 ?_
        refine zr_ldc2 C0 (v := -1) q2540 dX6_hasOther_36 ?_
        refine zr_lcmp C0 dX6_hasOther_39 ?_
        refine zr_if_eq C0 (tgt := 62) dX6_hasOther_40 (by decide) (fun c10 => ?_) (fun c10 => ?_)
        · have hf := zif_t (zl_eq.mp c10) hf
          exact w_X6_hasOther_b62 C0 ih hf
        · have hf := zif_f (zl_eqn.mp c10) hf
          refine zr_aload_n C0 dX6_hasOther_43 rfl 0 rfl ?_
          obtain ⟨x11, e12, hf⟩ := zbind hf
          refine zr_get C0 fl_X6_9_X6 dX6_hasOther_44 (zgR e12) ?_
          refine zr_sipush C0 (v := 15412) dX6_hasOther_47 (by decide) ?_
          refine zr_iload C0 dX6_hasOther_50 6 rfl ?_
          refine zr_iadd C0 dX6_hasOther_52 ?_
          obtain ⟨x13, e14, hf⟩ := zbind hf
          refine zr_lald C0 dX6_hasOther_53 e14 ?_
          refine zr_iload_n C0 dX6_hasOther_54 rfl 1 rfl ?_
          refine zr_i2l C0 dX6_hasOther_55 ?_
          refine zr_lcmp C0 dX6_hasOther_56 ?_
          refine zr_if_eq C0 (tgt := 62) dX6_hasOther_57 (by decide) (fun c15 => ?_) (fun c15 => ?_)
          · have hf := zif_t (zl_eq.mp c15) hf
            exact w_X6_hasOther_b62 C0 ih hf
          · have hf := zif_f (zl_eqn.mp c15) hf
            refine zr_iconst C0 (v := 1) dX6_hasOther_60 (by decide) ?_
            refine zretW hf ?_
            exact zr_iret C0 (ty := .boolean) rfl (by decide) dX6_hasOther_61 rfl
def f_X6_hasOther_b0 (E : zE) (p0 : Nat) (p1 : Int32) (p2 : Int32) (p3 : Int32) (p4 : Int32) (p5 : Int32) (h : zH) : Option (Int32 × zH) :=
  f_X6_hasOther_l3 E E.1 p0 p1 p2 p3 p4 p5 (0 : Int32) h
theorem w_X6_hasOther_b0 (C0 : zCx p l e R s m args below meth c D B0 7 "FranchiseLedgerModel" cX6_hasOther E 2 84 (Option.some Jvm.ClassFile.FieldType.boolean) "hasOther") {r : Int32} {h' : zH} {p0 : Nat} {p1 : Int32} {p2 : Int32} {p3 : Int32} {p4 : Int32} {p5 : Int32} {h : zH} (hf : f_X6_hasOther_b0 E p0 p1 p2 p3 p4 p5 h = some (r, h')) : zW p l e R s m args below meth c D B0 7 (zEnd D B0 R below args s (zoI r) h') h 0 [(0, .ref p0), (1, .int p1), (2, .int p2), (3, .int p3), (4, .int p4), (5, .int p5)] [] := by
  unfold f_X6_hasOther_b0 at hf
  refine zr_iconst C0 (v := 0) dX6_hasOther_0 (by decide) ?_
  refine zr_istore (i := 6) (lv' := [(6, .int (0 : Int32)), (0, .ref p0), (1, .int p1), (2, .int p2), (3, .int p3), (4, .int p4), (5, .int p5)]) C0 dX6_hasOther_1 (by decide) (by first | rfl | simp [zst1, zst2, zcat_rf]) ?_
  refine zr_sub [1, 2, 3, 4, 5, 6, 0] rfl ?_
  exact w_X6_hasOther_l3 C0 _ _ _ _ _ _ _ _ _ hf
def f_X6_hasOther (E : zE) (p0 : Nat) (p1 : Int32) (p2 : Int32) (p3 : Int32) (p4 : Int32) (p5 : Int32) (h : zH) : Option (Int32 × zH) := f_X6_hasOther_b0 E p0 p1 p2 p3 p4 p5 h
theorem m_X6_hasOther {l : Launch} (hst : l.stackTraces = false) {D : zD} {B0 : Nat} {E : zE} {p0 : Nat} {p1 : Int32} {p2 : Int32} {p3 : Int32} {p4 : Int32} {p5 : Int32} {h h' : zH} {r : Int32} (hf : f_X6_hasOther E p0 p1 p2 p3 p4 p5 h = some (r, h')) : zMet l yX6_hasOther (ws_ yX6_hasOther cX6_hasOther 7 (Option.some Jvm.ClassFile.FieldType.boolean)) 2 84 D B0 E [.ref p0, .int p1, .int p2, .int p3, .int p4, .int p5] h (zoI r) h' := by
  unfold f_X6_hasOther at hf
  refine zMet_of hst (by decide +kernel) rfl rfl (Nat.le_of_ble_eq_true rfl) (fun p e R s m below meth c C0 hno => ?_)
  show zW _ _ _ _ _ _ _ _ _ _ _ _ _ _ _ _ [(0, .ref p0), (1, .int p1), (2, .int p2), (3, .int p3), (4, .int p4), (5, .int p5)] []
  exact w_X6_hasOther_b0 C0 hf
def f_X6_readArea_b25 (E : zE) (h : zH) : Option (Int32 × zH) :=
  some ((0 : Int32), h)
theorem w_X6_readArea_b25 (C0 : zCx p l e R s m args below meth c D B0 7 "FranchiseLedgerModel" cX6_readArea E 5 149 (Option.some Jvm.ClassFile.FieldType.boolean) "readArea") {r : Int32} {h' : zH} {h : zH} (hf : f_X6_readArea_b25 E  h = some (r, h')) : zW p l e R s m args below meth c D B0 7 (zEnd D B0 R below args s (zoI r) h') h 25 [] [] := by
  unfold f_X6_readArea_b25 at hf
  refine zr_iconst C0 (v := 0) dX6_readArea_25 (by decide) ?_
  refine zretW hf ?_
  exact zr_iret C0 (ty := .boolean) rfl (by decide) dX6_readArea_26 rfl
def f_X6_readArea_b157 (E : zE) (k120 : Nat → Int32 → Int32 → Int32 → Int32 → Int32 → zH → Option (Int32 × zH)) (p0 : Nat) (p1 : Int32) (p2 : Int32) (p3 : Int32) (p4 : Int32) (p6 : Int32) (h : zH) : Option (Int32 × zH) :=
  k120 p0 p1 p2 p3 p4 (p6 + 1) h
theorem w_X6_readArea_b157 (C0 : zCx p l e R s m args below meth c D B0 7 "FranchiseLedgerModel" cX6_readArea E 5 149 (Option.some Jvm.ClassFile.FieldType.boolean) "readArea") {r : Int32} {h' : zH} {k120 : Nat → Int32 → Int32 → Int32 → Int32 → Int32 → zH → Option (Int32 × zH)} (hk120 : ∀ (p0 : Nat) (p1 : Int32) (p2 : Int32) (p3 : Int32) (p4 : Int32) (p6 : Int32) (h : zH), k120 p0 p1 p2 p3 p4 p6 h = some (r, h') → zW p l e R s m args below meth c D B0 7 (zEnd D B0 R below args s (zoI r) h') h 120 [(0, .ref p0), (1, .int p1), (2, .int p2), (3, .int p3), (4, .int p4), (6, .int p6)] []) {p0 : Nat} {p1 : Int32} {p2 : Int32} {p3 : Int32} {p4 : Int32} {p6 : Int32} {h : zH} (hf : f_X6_readArea_b157 E k120 p0 p1 p2 p3 p4 p6 h = some (r, h')) : zW p l e R s m args below meth c D B0 7 (zEnd D B0 R below args s (zoI r) h') h 157 [(0, .ref p0), (1, .int p1), (2, .int p2), (3, .int p3), (4, .int p4), (6, .int p6)] [] := by
  unfold f_X6_readArea_b157 at hf
  refine zr_iinc (lv' := [(6, .int (p6 + 1)), (0, .ref p0), (1, .int p1), (2, .int p2), (3, .int p3), (4, .int p4)]) C0 dX6_readArea_157 5 rfl rfl (by decide) (by first | rfl | simp [zst1, zst2, zcat_rf]) ?_
  refine zr_goto C0 (tgt := 120) dX6_readArea_160 (by decide) ?_
  refine zr_sub [1, 2, 3, 4, 5, 0] rfl ?_
  exact hk120 _ _ _ _ _ _ _ hf
def f_X6_readArea_l120 (E : zE) : Nat → Nat → Int32 → Int32 → Int32 → Int32 → Int32 → zH → Option (Int32 × zH)
  | 0, _, _, _, _, _, _, _ => none
  | n + 1, p0, p1, p2, p3, p4, p6, h =>
    if (900 : Int32) ≤ p6 then (
      (cko h p0 1).bind fun _ =>
      bnd2 (f_X6_readEnd E p0 h) fun x5 h3 =>
      (zgd .boolean x5).bind fun _ =>
      some (x5, h3)
    ) else (
      (gI h p0 1 15).bind fun x7 =>
      bnd2 (f_X6_isWithin E p6 p2 p3 p4 x7 h) fun x11 h9 =>
      if x11 = 0 then (
        f_X6_readArea_b157 E (f_X6_readArea_l120 E n) p0 p1 p2 p3 p4 p6 h9
      ) else (
        (gR h9 p0 1 0).bind fun x13 =>
        (sL h9 x13 ((15412 : Int32) + p6) (p1.toInt64)).bind fun h15 =>
        f_X6_readArea_b157 E (f_X6_readArea_l120 E n) p0 p1 p2 p3 p4 p6 h15
      )
    )
theorem w_X6_readArea_l120 (C0 : zCx p l e R s m args below meth c D B0 7 "FranchiseLedgerModel" cX6_readArea E 5 149 (Option.some Jvm.ClassFile.FieldType.boolean) "readArea") {r : Int32} {h' : zH} : ∀ (n : Nat) (p0 : Nat) (p1 : Int32) (p2 : Int32) (p3 : Int32) (p4 : Int32) (p6 : Int32) (h : zH), f_X6_readArea_l120 E n p0 p1 p2 p3 p4 p6 h = some (r, h') → zW p l e R s m args below meth c D B0 7 (zEnd D B0 R below args s (zoI r) h') h 120 [(0, .ref p0), (1, .int p1), (2, .int p2), (3, .int p3), (4, .int p4), (6, .int p6)] [] := by
  intro n
  induction n with
  | zero =>
    intro p0 p1 p2 p3 p4 p6 h hf
    unfold f_X6_readArea_l120 at hf
    cases hf
  | succ n ih =>
    intro p0 p1 p2 p3 p4 p6 h hf
    unfold f_X6_readArea_l120 at hf
    refine zr_iload C0 dX6_readArea_120 5 rfl ?_
    refine zr_sipush C0 (v := 900) dX6_readArea_122 (by decide) ?_
    refine zr_icmp_ge C0 (tgt := 163) dX6_readArea_125 (by decide) (fun c1 => ?_) (fun c1 => ?_)
    · have hf := zif_t c1 hf
      refine zr_aload_n C0 dX6_readArea_163 rfl 0 rfl ?_
      obtain ⟨_, e2, hf⟩ := zbind hf
      obtain ⟨x5, h3, e4, hf⟩ := zbind2 hf
      refine zr_callV_r C0 cv_X6_361_X6 rfl (zcko e2) (m_X6_readEnd C0.2.2.2.2.2.2.1 e4) (by decide) (by decide) rfl rfl (Nat.le_of_ble_eq_true rfl) dX6_readArea_164 rfl ?_
      obtain ⟨_, e6, hf⟩ := zbind hf
      refine zretW hf ?_
      exact zr_iret C0 (ty := .boolean) rfl (zgd_n e6) dX6_readArea_167 rfl
    · have hf := zif_f c1 hf
      refine zr_iload C0 dX6_readArea_128 5 rfl ?_
      refine zr_iload_n C0 dX6_readArea_130 rfl 2 rfl ?_
      refine zr_iload_n C0 dX6_readArea_131 rfl 3 rfl ?_
      refine zr_iload C0 dX6_readArea_132 4 rfl ?_
      refine zr_aload_n C0 dX6_readArea_134 rfl 0 rfl ?_
      obtain ⟨x7, e8, hf⟩ := zbind hf
      refine zr_get C0 fl_X6_342_X6 dX6_readArea_135 (zgI e8) ?_
      obtain ⟨x11, h9, e10, hf⟩ := zbind2 hf
      refine zr_callS_r C0 cv_X6_131 (m_X6_isWithin C0.2.2.2.2.2.2.1 e10) (by decide) (by decide) rfl rfl (Nat.le_of_ble_eq_true rfl) dX6_readArea_138 rfl ?_
      refine zr_if_eq C0 (tgt := 157) dX6_readArea_141 (by decide) (fun c12 => ?_) (fun c12 => ?_)
      · have hf := zif_t c12 hf
        exact w_X6_readArea_b157 C0 ih hf
      · have hf := zif_f c12 hf
        refine zr_aload_n C0 dX6_readArea_144 rfl 0 rfl ?_
        obtain ⟨x13, e14, hf⟩ := zbind hf
        refine zr_get C0 fl_X6_9_X6 dX6_readArea_145 (zgR e14) ?_
        refine zr_sipush C0 (v := 15412) dX6_readArea_148 (by decide) ?_
        refine zr_iload C0 dX6_readArea_151 5 rfl ?_
        refine zr_iadd C0 dX6_readArea_153 ?_
        refine zr_iload_n C0 dX6_readArea_154 rfl 1 rfl ?_
        refine zr_i2l C0 dX6_readArea_155 ?_
        obtain ⟨h15, e16, hf⟩ := zbind hf
        refine zr_last C0 dX6_readArea_156 e16 ?_
        exact w_X6_readArea_b157 C0 ih hf
def f_X6_readArea_b0 (E : zE) (p0 : Nat) (h : zH) : Option (Int32 × zH) :=
  (cko h p0 1).bind fun _ =>
  bnd2 (f_X6_advance E p0 h) fun x4 h2 =>
  (cko h2 p0 1).bind fun _ =>
  bnd2 (f_X6_readName E p0 (3 : Int32) h2) fun x8 h6 =>
  if x8 = (-1 : Int32) then (
    f_X6_readArea_b25 E  h6
  ) else (
    (cko h6 p0 1).bind fun _ =>
    bnd2 (f_X6_readNumber E p0 (0 : Int32) (29 : Int32) h6) fun x13 h11 =>
    if x13 = 0 then (
      f_X6_readArea_b25 E  h11
    ) else (
      (gI h11 p0 1 15).bind fun x15 =>
      (cko h11 p0 1).bind fun _ =>
      bnd2 (f_X6_readNumber E p0 (0 : Int32) (29 : Int32) h11) fun x20 h18 =>
      if x20 = 0 then (
        some ((0 : Int32), h18)
      ) else (
        (gI h18 p0 1 15).bind fun x22 =>
        (cko h18 p0 1).bind fun _ =>
        bnd2 (f_X6_readNumber E p0 (x15 + (1 : Int32)) (30 : Int32) h18) fun x27 h25 =>
        if x27 = 0 then (
          some ((0 : Int32), h25)
        ) else (
          (gI h25 p0 1 15).bind fun x29 =>
          (gI h25 p0 1 14).bind fun x31 =>
          (cko h25 p0 1).bind fun _ =>
          bnd2 (f_X6_readNumber E p0 (x22 + (1 : Int32)) (30 : Int32) h25) fun x36 h34 =>
          if x36 = 0 then (
            some ((0 : Int32), h34)
          ) else (
            (gI h34 p0 1 15).bind fun x38 =>
            (cko h34 p0 1).bind fun _ =>
            bnd2 (f_X6_hasOther E p0 x8 x15 x22 x29 x38 h34) fun x43 h41 =>
            if x43 = 0 then (
              f_X6_readArea_l120 E E.1 p0 x8 x15 x22 x29 (0 : Int32) h41
            ) else (
              (pF h41 p0 1 14 (.int x31)).bind fun h45 =>
              (cko h45 p0 1).bind fun _ =>
              bnd2 (f_X6_fail E p0 (5 : Int32) h45) fun x50 h48 =>
              (zgd .boolean x50).bind fun _ =>
              some (x50, h48)
            )
          )
        )
      )
    )
  )
theorem w_X6_readArea_b0 (C0 : zCx p l e R s m args below meth c D B0 7 "FranchiseLedgerModel" cX6_readArea E 5 149 (Option.some Jvm.ClassFile.FieldType.boolean) "readArea") {r : Int32} {h' : zH} {p0 : Nat} {h : zH} (hf : f_X6_readArea_b0 E p0 h = some (r, h')) : zW p l e R s m args below meth c D B0 7 (zEnd D B0 R below args s (zoI r) h') h 0 [(0, .ref p0)] [] := by
  unfold f_X6_readArea_b0 at hf
  refine zr_aload_n C0 dX6_readArea_0 rfl 0 rfl ?_
  obtain ⟨_, e1, hf⟩ := zbind hf
  obtain ⟨x4, h2, e3, hf⟩ := zbind2 hf
  refine zr_callV_r C0 cv_X6_345_X6 rfl (zcko e1) (m_X6_advance C0.2.2.2.2.2.2.1 e3) (by decide) (by decide) rfl rfl (Nat.le_of_ble_eq_true rfl) dX6_readArea_1 rfl ?_
  refine zr_aload_n C0 dX6_readArea_4 rfl 0 rfl ?_
  refine zr_iconst C0 (v := 3) dX6_readArea_5 (by decide) ?_
  obtain ⟨_, e5, hf⟩ := zbind hf
  obtain ⟨x8, h6, e7, hf⟩ := zbind2 hf
  refine zr_callV_r C0 cv_X6_374_X6 rfl (zcko e5) (m_X6_readName C0.2.2.2.2.2.2.1 e7) (by decide) (by decide) rfl rfl (Nat.le_of_ble_eq_true rfl) dX6_readArea_6 rfl ?_
  refine zr_istore_n (i := 1) (lv' := [(1, .int x8), (0, .ref p0)]) C0 dX6_readArea_9 rfl (by decide) (by first | rfl | simp [zst1, zst2, zcat_rf]) ?_
  refine zr_iload_n C0 dX6_readArea_10 rfl 0 rfl ?_
  refine zr_iconst C0 (v := -1) dX6_readArea_11 (by decide) ?_
  refine zr_icmp_eq C0 (tgt := 25) dX6_readArea_12 (by decide) (fun c9 => ?_) (fun c9 => ?_)
  · have hf := zif_t c9 hf
    refine zr_sub [] rfl ?_
    exact w_X6_readArea_b25 C0 hf
  · have hf := zif_f c9 hf
    refine zr_aload_n C0 dX6_readArea_15 rfl 1 rfl ?_
    refine zr_iconst C0 (v := 0) dX6_readArea_16 (by decide) ?_
    refine zr_bipush C0 (v := 29) dX6_readArea_17 (by decide) ?_
    obtain ⟨_, e10, hf⟩ := zbind hf
    obtain ⟨x13, h11, e12, hf⟩ := zbind2 hf
    refine zr_callV_r C0 cv_X6_348_X6 rfl (zcko e10) (m_X6_readNumber C0.2.2.2.2.2.2.1 e12) (by decide) (by decide) rfl rfl (Nat.le_of_ble_eq_true rfl) dX6_readArea_19 rfl ?_
    refine zr_if_ne C0 (tgt := 27) dX6_readArea_22 (by decide) (fun c14 => ?_) (fun c14 => ?_)
    · have hf := zif_f c14 hf
      refine zr_aload_n C0 dX6_readArea_27 rfl 1 rfl ?_
      obtain ⟨x15, e16, hf⟩ := zbind hf
      refine zr_get C0 fl_X6_342_X6 dX6_readArea_28 (zgI e16) ?_
      refine zr_istore_n (i := 2) (lv' := [(2, .int x15), (1, .int x8), (0, .ref p0)]) C0 dX6_readArea_31 rfl (by decide) (by first | rfl | simp [zst1, zst2, zcat_rf]) ?_
      refine zr_aload_n C0 dX6_readArea_32 rfl 2 rfl ?_
      refine zr_iconst C0 (v := 0) dX6_readArea_33 (by decide) ?_
      refine zr_bipush C0 (v := 29) dX6_readArea_34 (by decide) ?_
      obtain ⟨_, e17, hf⟩ := zbind hf
      obtain ⟨x20, h18, e19, hf⟩ := zbind2 hf
      refine zr_callV_r C0 cv_X6_348_X6 rfl (zcko e17) (m_X6_readNumber C0.2.2.2.2.2.2.1 e19) (by decide) (by decide) rfl rfl (Nat.le_of_ble_eq_true rfl) dX6_readArea_36 rfl ?_
      refine zr_if_ne C0 (tgt := 44) dX6_readArea_39 (by decide) (fun c21 => ?_) (fun c21 => ?_)
      · have hf := zif_f c21 hf
        refine zr_aload_n C0 dX6_readArea_44 rfl 2 rfl ?_
        obtain ⟨x22, e23, hf⟩ := zbind hf
        refine zr_get C0 fl_X6_342_X6 dX6_readArea_45 (zgI e23) ?_
        refine zr_istore_n (i := 3) (lv' := [(3, .int x22), (2, .int x15), (1, .int x8), (0, .ref p0)]) C0 dX6_readArea_48 rfl (by decide) (by first | rfl | simp [zst1, zst2, zcat_rf]) ?_
        refine zr_aload_n C0 dX6_readArea_49 rfl 3 rfl ?_
        refine zr_iload_n C0 dX6_readArea_50 rfl 1 rfl ?_
        refine zr_iconst C0 (v := 1) dX6_readArea_51 (by decide) ?_
        refine zr_iadd C0 dX6_readArea_52 ?_
        refine zr_bipush C0 (v := 30) dX6_readArea_53 (by decide) ?_
        obtain ⟨_, e24, hf⟩ := zbind hf
        obtain ⟨x27, h25, e26, hf⟩ := zbind2 hf
        refine zr_callV_r C0 cv_X6_348_X6 rfl (zcko e24) (m_X6_readNumber C0.2.2.2.2.2.2.1 e26) (by decide) (by decide) rfl rfl (Nat.le_of_ble_eq_true rfl) dX6_readArea_55 rfl ?_
        refine zr_if_ne C0 (tgt := 63) dX6_readArea_58 (by decide) (fun c28 => ?_) (fun c28 => ?_)
        · have hf := zif_f c28 hf
          refine zr_aload_n C0 dX6_readArea_63 rfl 3 rfl ?_
          obtain ⟨x29, e30, hf⟩ := zbind hf
          refine zr_get C0 fl_X6_342_X6 dX6_readArea_64 (zgI e30) ?_
          refine zr_istore (i := 4) (lv' := [(4, .int x29), (3, .int x22), (2, .int x15), (1, .int x8), (0, .ref p0)]) C0 dX6_readArea_67 (by decide) (by first | rfl | simp [zst1, zst2, zcat_rf]) ?_
          refine zr_aload_n C0 dX6_readArea_69 rfl 4 rfl ?_
          obtain ⟨x31, e32, hf⟩ := zbind hf
          refine zr_get C0 fl_X6_319_X6 dX6_readArea_70 (zgI e32) ?_
          refine zr_istore (i := 5) (lv' := [(5, .int x31), (4, .int x29), (3, .int x22), (2, .int x15), (1, .int x8), (0, .ref p0)]) C0 dX6_readArea_73 (by decide) (by first | rfl | simp [zst1, zst2, zcat_rf]) ?_
          refine zr_aload_n C0 dX6_readArea_75 rfl 5 rfl ?_
          refine zr_iload_n C0 dX6_readArea_76 rfl 2 rfl ?_
          refine zr_iconst C0 (v := 1) dX6_readArea_77 (by decide) ?_
          refine zr_iadd C0 dX6_readArea_78 ?_
          refine zr_bipush C0 (v := 30) dX6_readArea_79 (by decide) ?_
          obtain ⟨_, e33, hf⟩ := zbind hf
          obtain ⟨x36, h34, e35, hf⟩ := zbind2 hf
          refine zr_callV_r C0 cv_X6_348_X6 rfl (zcko e33) (m_X6_readNumber C0.2.2.2.2.2.2.1 e35) (by decide) (by decide) rfl rfl (Nat.le_of_ble_eq_true rfl) dX6_readArea_81 rfl ?_
          refine zr_if_ne C0 (tgt := 89) dX6_readArea_84 (by decide) (fun c37 => ?_) (fun c37 => ?_)
          · have hf := zif_f c37 hf
            refine zr_aload_n C0 dX6_readArea_89 rfl 5 rfl ?_
            refine zr_iload_n C0 dX6_readArea_90 rfl 4 rfl ?_
            refine zr_iload_n C0 dX6_readArea_91 rfl 3 rfl ?_
            refine zr_iload_n C0 dX6_readArea_92 rfl 2 rfl ?_
            refine zr_iload C0 dX6_readArea_93 1 rfl ?_
            refine zr_aload_n C0 dX6_readArea_95 rfl 5 rfl ?_
            obtain ⟨x38, e39, hf⟩ := zbind hf
            refine zr_get C0 fl_X6_342_X6 dX6_readArea_96 (zgI e39) ?_
            obtain ⟨_, e40, hf⟩ := zbind hf
            obtain ⟨x43, h41, e42, hf⟩ := zbind2 hf
            refine zr_callV_r C0 cv_X6_377_X6 rfl (zcko e40) (m_X6_hasOther C0.2.2.2.2.2.2.1 e42) (by decide) (by decide) rfl rfl (Nat.le_of_ble_eq_true rfl) dX6_readArea_99 rfl ?_
            refine zr_if_eq C0 (tgt := 117) dX6_readArea_102 (by decide) (fun c44 => ?_) (fun c44 => ?_)
            · have hf := zif_t c44 hf
              refine zr_iconst C0 (v := 0) dX6_readArea_117 (by decide) ?_
              refine zr_istore (i := 6) (lv' := [(6, .int (0 : Int32)), (5, .int x31), (4, .int x29), (3, .int x22), (2, .int x15), (1, .int x8), (0, .ref p0)]) C0 dX6_readArea_118 (by decide) (by first | rfl | simp [zst1, zst2, zcat_rf]) ?_
              refine zr_sub [6, 5, 4, 3, 2, 0] rfl ?_
              exact w_X6_readArea_l120 C0 _ _ _ _ _ _ _ _ hf
            · have hf := zif_f c44 hf
              refine zr_aload_n C0 dX6_readArea_105 rfl 5 rfl ?_
              refine zr_iload C0 dX6_readArea_106 0 rfl ?_
              obtain ⟨h45, e46, hf⟩ := zbind hf
              refine zr_put C0 pl_X6_319_X6 dX6_readArea_108 (fun h => by cases h) rfl rfl e46 ?_
              refine zr_aload_n C0 dX6_readArea_111 rfl 5 rfl ?_
              refine zr_iconst C0 (v := 5) dX6_readArea_112 (by decide) ?_
              obtain ⟨_, e47, hf⟩ := zbind hf
              obtain ⟨x50, h48, e49, hf⟩ := zbind2 hf
              refine zr_callV_r C0 cv_X6_339_X6 rfl (zcko e47) (m_X6_fail C0.2.2.2.2.2.2.1 e49) (by decide) (by decide) rfl rfl (Nat.le_of_ble_eq_true rfl) dX6_readArea_113 rfl ?_
              obtain ⟨_, e51, hf⟩ := zbind hf
              refine zretW hf ?_
              exact zr_iret C0 (ty := .boolean) rfl (zgd_n e51) dX6_readArea_116 rfl
          · have hf := zif_t c37 hf
            refine zr_iconst C0 (v := 0) dX6_readArea_87 (by decide) ?_
            refine zretW hf ?_
            exact zr_iret C0 (ty := .boolean) rfl (by decide) dX6_readArea_88 rfl
        · have hf := zif_t c28 hf
          refine zr_iconst C0 (v := 0) dX6_readArea_61 (by decide) ?_
          refine zretW hf ?_
          exact zr_iret C0 (ty := .boolean) rfl (by decide) dX6_readArea_62 rfl
      · have hf := zif_t c21 hf
        refine zr_iconst C0 (v := 0) dX6_readArea_42 (by decide) ?_
        refine zretW hf ?_
        exact zr_iret C0 (ty := .boolean) rfl (by decide) dX6_readArea_43 rfl
    · have hf := zif_t c14 hf
      refine zr_sub [] rfl ?_
      exact w_X6_readArea_b25 C0 hf
def f_X6_readArea (E : zE) (p0 : Nat) (h : zH) : Option (Int32 × zH) := f_X6_readArea_b0 E p0 h
theorem m_X6_readArea {l : Launch} (hst : l.stackTraces = false) {D : zD} {B0 : Nat} {E : zE} {p0 : Nat} {h h' : zH} {r : Int32} (hf : f_X6_readArea E p0 h = some (r, h')) : zMet l yX6_readArea (ws_ yX6_readArea cX6_readArea 7 (Option.some Jvm.ClassFile.FieldType.boolean)) 5 149 D B0 E [.ref p0] h (zoI r) h' := by
  unfold f_X6_readArea at hf
  refine zMet_of hst (by decide +kernel) rfl rfl (Nat.le_of_ble_eq_true rfl) (fun p e R s m below meth c C0 hno => ?_)
  show zW _ _ _ _ _ _ _ _ _ _ _ _ _ _ _ _ [(0, .ref p0)] []
  exact w_X6_readArea_b0 C0 hf
def f_X6_hasOutletRead_b58 (E : zE) (k2 : Nat → Int32 → Int32 → Int32 → zH → Option (Int32 × zH)) (p0 : Nat) (p1 : Int32) (p2 : Int32) (p3 : Int32) (h : zH) : Option (Int32 × zH) :=
  k2 p0 p1 p2 (p3 + 1) h
theorem w_X6_hasOutletRead_b58 (C0 : zCx p l e R s m args below meth c D B0 4 "FranchiseLedgerModel" cX6_hasOutletRead E 1 60 (Option.some Jvm.ClassFile.FieldType.boolean) "hasOutletRead") {r : Int32} {h' : zH} {k2 : Nat → Int32 → Int32 → Int32 → zH → Option (Int32 × zH)} (hk2 : ∀ (p0 : Nat) (p1 : Int32) (p2 : Int32) (p3 : Int32) (h : zH), k2 p0 p1 p2 p3 h = some (r, h') → zW p l e R s m args below meth c D B0 4 (zEnd D B0 R below args s (zoI r) h') h 2 [(0, .ref p0), (1, .int p1), (2, .int p2), (3, .int p3)] []) {p0 : Nat} {p1 : Int32} {p2 : Int32} {p3 : Int32} {h : zH} (hf : f_X6_hasOutletRead_b58 E k2 p0 p1 p2 p3 h = some (r, h')) : zW p l e R s m args below meth c D B0 4 (zEnd D B0 R below args s (zoI r) h') h 58 [(0, .ref p0), (1, .int p1), (2, .int p2), (3, .int p3)] [] := by
  unfold f_X6_hasOutletRead_b58 at hf
  refine zr_iinc (lv' := [(3, .int (p3 + 1)), (0, .ref p0), (1, .int p1), (2, .int p2)]) C0 dX6_hasOutletRead_58 3 rfl rfl (by decide) (by first | rfl | simp [zst1, zst2, zcat_rf]) ?_
  refine zr_goto C0 (tgt := 2) dX6_hasOutletRead_61 (by decide) ?_
  refine zr_sub [1, 2, 3, 0] rfl ?_
  exact hk2 _ _ _ _ _ hf
def f_X6_hasOutletRead_l2 (E : zE) : Nat → Nat → Int32 → Int32 → Int32 → zH → Option (Int32 × zH)
  | 0, _, _, _, _, _ => none
  | n + 1, p0, p1, p2, p3, h =>
    (gR h p0 1 0).bind fun x1 =>
    (dL h x1 (15165 : Int32)).bind fun x3 =>
    if x3 ≤ (p3.toInt64) then (
      some ((0 : Int32), h)
    ) else (
      (gR h p0 1 0).bind fun x6 =>
      (dL h x6 (((15348 : Int32) + ((4 : Int32) * p3)) + (1 : Int32))).bind fun x8 =>
      if x8 = (p1.toInt64) then (
        (gR h p0 1 0).bind fun x11 =>
        (dL h x11 (((15348 : Int32) + ((4 : Int32) * p3)) + (2 : Int32))).bind fun x13 =>
        if x13 = (p2.toInt64) then (
          some ((1 : Int32), h)
        ) else (
          f_X6_hasOutletRead_b58 E (f_X6_hasOutletRead_l2 E n) p0 p1 p2 p3 h
        )
      ) else (
        f_X6_hasOutletRead_b58 E (f_X6_hasOutletRead_l2 E n) p0 p1 p2 p3 h
      )
    )
theorem w_X6_hasOutletRead_l2 (C0 : zCx p l e R s m args below meth c D B0 4 "FranchiseLedgerModel" cX6_hasOutletRead E 1 60 (Option.some Jvm.ClassFile.FieldType.boolean) "hasOutletRead") {r : Int32} {h' : zH} : ∀ (n : Nat) (p0 : Nat) (p1 : Int32) (p2 : Int32) (p3 : Int32) (h : zH), f_X6_hasOutletRead_l2 E n p0 p1 p2 p3 h = some (r, h') → zW p l e R s m args below meth c D B0 4 (zEnd D B0 R below args s (zoI r) h') h 2 [(0, .ref p0), (1, .int p1), (2, .int p2), (3, .int p3)] [] := by
  intro n
  induction n with
  | zero =>
    intro p0 p1 p2 p3 h hf
    unfold f_X6_hasOutletRead_l2 at hf
    cases hf
  | succ n ih =>
    intro p0 p1 p2 p3 h hf
    unfold f_X6_hasOutletRead_l2 at hf
    refine zr_iload_n C0 dX6_hasOutletRead_2 rfl 3 rfl ?_
    refine zr_i2l C0 dX6_hasOutletRead_3 ?_
    refine zr_aload_n C0 dX6_hasOutletRead_4 rfl 0 rfl ?_
    obtain ⟨x1, e2, hf⟩ := zbind hf
    refine zr_get C0 fl_X6_9_X6 dX6_hasOutletRead_5 (zgR e2) ?_
    refine zr_sipush C0 (v := 15165) dX6_hasOutletRead_8 (by decide) ?_
    obtain ⟨x3, e4, hf⟩ := zbind hf
    refine zr_lald C0 dX6_hasOutletRead_11 e4 ?_
    refine zr_lcmp C0 dX6_hasOutletRead_12 ?_
    refine zr_if_ge C0 (tgt := 64) dX6_hasOutletRead_13 (by decide) (fun c5 => ?_) (fun c5 => ?_)
    · have hf := zif_t (zl_ge.mp c5) hf
      refine zr_iconst C0 (v := 0) dX6_hasOutletRead_64 (by decide) ?_
      refine zretW hf ?_
      exact zr_iret C0 (ty := .boolean) rfl (by decide) dX6_hasOutletRead_65 rfl
    · have hf := zif_f (zl_gen.mp c5) hf
      refine zr_aload_n C0 dX6_hasOutletRead_16 rfl 0 rfl ?_
      obtain ⟨x6, e7, hf⟩ := zbind hf
      refine zr_get C0 fl_X6_9_X6 dX6_hasOutletRead_17 (zgR e7) ?_
      refine zr_sipush C0 (v := 15348) dX6_hasOutletRead_20 (by decide) ?_
      refine zr_iconst C0 (v := 4) dX6_hasOutletRead_23 (by decide) ?_
      refine zr_iload_n C0 dX6_hasOutletRead_24 rfl 3 rfl ?_
      refine zr_imul C0 dX6_hasOutletRead_25 ?_
      refine zr_iadd C0 dX6_hasOutletRead_26 ?_
      refine zr_iconst C0 (v := 1) dX6_hasOutletRead_27 (by decide) ?_
      refine zr_iadd C0 dX6_hasOutletRead_28 ?_
      obtain ⟨x8, e9, hf⟩ := zbind hf
      refine zr_lald C0 dX6_hasOutletRead_29 e9 ?_
      refine zr_iload_n C0 dX6_hasOutletRead_30 rfl 1 rfl ?_
      refine zr_i2l C0 dX6_hasOutletRead_31 ?_
      refine zr_lcmp C0 dX6_hasOutletRead_32 ?_
      refine zr_if_ne C0 (tgt := 58) dX6_hasOutletRead_33 (by decide) (fun c10 => ?_) (fun c10 => ?_)
      · have hf := zif_f (zl_ne.mp c10) hf
        exact w_X6_hasOutletRead_b58 C0 ih hf
      · have hf := zif_t (zl_nen.mp c10) hf
        refine zr_aload_n C0 dX6_hasOutletRead_36 rfl 0 rfl ?_
        obtain ⟨x11, e12, hf⟩ := zbind hf
        refine zr_get C0 fl_X6_9_X6 dX6_hasOutletRead_37 (zgR e12) ?_
        refine zr_sipush C0 (v := 15348) dX6_hasOutletRead_40 (by decide) ?_
        refine zr_iconst C0 (v := 4) dX6_hasOutletRead_43 (by decide) ?_
        refine zr_iload_n C0 dX6_hasOutletRead_44 rfl 3 rfl ?_
        refine zr_imul C0 dX6_hasOutletRead_45 ?_
        refine zr_iadd C0 dX6_hasOutletRead_46 ?_
        refine zr_iconst C0 (v := 2) dX6_hasOutletRead_47 (by decide) ?_
        refine zr_iadd C0 dX6_hasOutletRead_48 ?_
        obtain ⟨x13, e14, hf⟩ := zbind hf
        refine zr_lald C0 dX6_hasOutletRead_49 e14 ?_
        refine zr_iload_n C0 dX6_hasOutletRead_50 rfl 2 rfl ?_
        refine zr_i2l C0 dX6_hasOutletRead_51 ?_
        refine zr_lcmp C0 dX6_hasOutletRead_52 ?_
        refine zr_if_ne C0 (tgt := 58) dX6_hasOutletRead_53 (by decide) (fun c15 => ?_) (fun c15 => ?_)
        · have hf := zif_f (zl_ne.mp c15) hf
          exact w_X6_hasOutletRead_b58 C0 ih hf
        · have hf := zif_t (zl_nen.mp c15) hf
          refine zr_iconst C0 (v := 1) dX6_hasOutletRead_56 (by decide) ?_
          refine zretW hf ?_
          exact zr_iret C0 (ty := .boolean) rfl (by decide) dX6_hasOutletRead_57 rfl
def f_X6_hasOutletRead_b0 (E : zE) (p0 : Nat) (p1 : Int32) (p2 : Int32) (h : zH) : Option (Int32 × zH) :=
  f_X6_hasOutletRead_l2 E E.1 p0 p1 p2 (0 : Int32) h
theorem w_X6_hasOutletRead_b0 (C0 : zCx p l e R s m args below meth c D B0 4 "FranchiseLedgerModel" cX6_hasOutletRead E 1 60 (Option.some Jvm.ClassFile.FieldType.boolean) "hasOutletRead") {r : Int32} {h' : zH} {p0 : Nat} {p1 : Int32} {p2 : Int32} {h : zH} (hf : f_X6_hasOutletRead_b0 E p0 p1 p2 h = some (r, h')) : zW p l e R s m args below meth c D B0 4 (zEnd D B0 R below args s (zoI r) h') h 0 [(0, .ref p0), (1, .int p1), (2, .int p2)] [] := by
  unfold f_X6_hasOutletRead_b0 at hf
  refine zr_iconst C0 (v := 0) dX6_hasOutletRead_0 (by decide) ?_
  refine zr_istore_n (i := 3) (lv' := [(3, .int (0 : Int32)), (0, .ref p0), (1, .int p1), (2, .int p2)]) C0 dX6_hasOutletRead_1 rfl (by decide) (by first | rfl | simp [zst1, zst2, zcat_rf]) ?_
  refine zr_sub [1, 2, 3, 0] rfl ?_
  exact w_X6_hasOutletRead_l2 C0 _ _ _ _ _ _ hf
def f_X6_hasOutletRead (E : zE) (p0 : Nat) (p1 : Int32) (p2 : Int32) (h : zH) : Option (Int32 × zH) := f_X6_hasOutletRead_b0 E p0 p1 p2 h
theorem m_X6_hasOutletRead {l : Launch} (hst : l.stackTraces = false) {D : zD} {B0 : Nat} {E : zE} {p0 : Nat} {p1 : Int32} {p2 : Int32} {h h' : zH} {r : Int32} (hf : f_X6_hasOutletRead E p0 p1 p2 h = some (r, h')) : zMet l yX6_hasOutletRead (ws_ yX6_hasOutletRead cX6_hasOutletRead 4 (Option.some Jvm.ClassFile.FieldType.boolean)) 1 60 D B0 E [.ref p0, .int p1, .int p2] h (zoI r) h' := by
  unfold f_X6_hasOutletRead at hf
  refine zMet_of hst (by decide +kernel) rfl rfl (Nat.le_of_ble_eq_true rfl) (fun p e R s m below meth c C0 hno => ?_)
  show zW _ _ _ _ _ _ _ _ _ _ _ _ _ _ _ _ [(0, .ref p0), (1, .int p1), (2, .int p2)] []
  exact w_X6_hasOutletRead_b0 C0 hf
def f_X6_readOutlet_b46 (E : zE) (h : zH) : Option (Int32 × zH) :=
  some ((0 : Int32), h)
theorem w_X6_readOutlet_b46 (C0 : zCx p l e R s m args below meth c D B0 4 "FranchiseLedgerModel" cX6_readOutlet E 5 149 (Option.some Jvm.ClassFile.FieldType.boolean) "readOutlet") {r : Int32} {h' : zH} {h : zH} (hf : f_X6_readOutlet_b46 E  h = some (r, h')) : zW p l e R s m args below meth c D B0 4 (zEnd D B0 R below args s (zoI r) h') h 46 [] [] := by
  unfold f_X6_readOutlet_b46 at hf
  refine zr_iconst C0 (v := 0) dX6_readOutlet_46 (by decide) ?_
  refine zretW hf ?_
  exact zr_iret C0 (ty := .boolean) rfl (by decide) dX6_readOutlet_47 rfl
def f_X6_readOutlet_b106 (E : zE) (p0 : Nat) (p3 : Int32) (h : zH) : Option (Int32 × zH) :=
  (pF h p0 1 14 (.int p3)).bind fun h1 =>
  (cko h1 p0 1).bind fun _ =>
  bnd2 (f_X6_fail E p0 (5 : Int32) h1) fun x6 h4 =>
  (zgd .boolean x6).bind fun _ =>
  some (x6, h4)
theorem w_X6_readOutlet_b106 (C0 : zCx p l e R s m args below meth c D B0 4 "FranchiseLedgerModel" cX6_readOutlet E 5 149 (Option.some Jvm.ClassFile.FieldType.boolean) "readOutlet") {r : Int32} {h' : zH} {p0 : Nat} {p3 : Int32} {h : zH} (hf : f_X6_readOutlet_b106 E p0 p3 h = some (r, h')) : zW p l e R s m args below meth c D B0 4 (zEnd D B0 R below args s (zoI r) h') h 106 [(0, .ref p0), (3, .int p3)] [] := by
  unfold f_X6_readOutlet_b106 at hf
  refine zr_aload_n C0 dX6_readOutlet_106 rfl 0 rfl ?_
  refine zr_iload_n C0 dX6_readOutlet_107 rfl 1 rfl ?_
  obtain ⟨h1, e2, hf⟩ := zbind hf
  refine zr_put C0 pl_X6_319_X6 dX6_readOutlet_108 (fun h => by cases h) rfl rfl e2 ?_
  refine zr_aload_n C0 dX6_readOutlet_111 rfl 0 rfl ?_
  refine zr_iconst C0 (v := 5) dX6_readOutlet_112 (by decide) ?_
  obtain ⟨_, e3, hf⟩ := zbind hf
  obtain ⟨x6, h4, e5, hf⟩ := zbind2 hf
  refine zr_callV_r C0 cv_X6_339_X6 rfl (zcko e3) (m_X6_fail C0.2.2.2.2.2.2.1 e5) (by decide) (by decide) rfl rfl (Nat.le_of_ble_eq_true rfl) dX6_readOutlet_113 rfl ?_
  obtain ⟨_, e7, hf⟩ := zbind hf
  refine zretW hf ?_
  exact zr_iret C0 (ty := .boolean) rfl (zgd_n e7) dX6_readOutlet_116 rfl
def f_X6_readOutlet_b0 (E : zE) (p0 : Nat) (h : zH) : Option (Int32 × zH) :=
  (gR h p0 1 0).bind fun x1 =>
  (dL h x1 (15165 : Int32)).bind fun x3 =>
  if x3 = (16 : Int64) then (
    (cko h p0 1).bind fun _ =>
    bnd2 (f_X6_fail E p0 (4 : Int32) h) fun x57 h55 =>
    (zgd .boolean x57).bind fun _ =>
    some (x57, h55)
  ) else (
    (cko h p0 1).bind fun _ =>
    bnd2 (f_X6_advance E p0 h) fun x9 h7 =>
    (cko h7 p0 1).bind fun _ =>
    bnd2 (f_X6_readName E p0 (3 : Int32) h7) fun x13 h11 =>
    if x13 = (-1 : Int32) then (
      f_X6_readOutlet_b46 E  h11
    ) else (
      (cko h11 p0 1).bind fun _ =>
      bnd2 (f_X6_readNumber E p0 (0 : Int32) (29 : Int32) h11) fun x18 h16 =>
      if x18 = 0 then (
        f_X6_readOutlet_b46 E  h16
      ) else (
        (gI h16 p0 1 15).bind fun x20 =>
        (gI h16 p0 1 14).bind fun x22 =>
        (cko h16 p0 1).bind fun _ =>
        bnd2 (f_X6_readNumber E p0 (0 : Int32) (29 : Int32) h16) fun x27 h25 =>
        if x27 = 0 then (
          some ((0 : Int32), h25)
        ) else (
          (gR h25 p0 1 0).bind fun x29 =>
          (gI h25 p0 1 15).bind fun x31 =>
          (dL h25 x29 (((15412 : Int32) + ((30 : Int32) * x31)) + x20)).bind fun x33 =>
          if x33 = (x13.toInt64) then (
            (gI h25 p0 1 15).bind fun x36 =>
            (cko h25 p0 1).bind fun _ =>
            bnd2 (f_X6_hasOutletRead E p0 x20 x36 h25) fun x41 h39 =>
            if x41 = 0 then (
              (gI h39 p0 1 15).bind fun x43 =>
              (cko h39 p0 1).bind fun _ =>
              bnd2 (f_X6_putOutlet E p0 (3 : Int32) x13 x20 x43 h39) fun x48 h46 =>
              (cko h46 p0 1).bind fun _ =>
              bnd2 (f_X6_readEnd E p0 h46) fun x52 h50 =>
              (zgd .boolean x52).bind fun _ =>
              some (x52, h50)
            ) else (
              f_X6_readOutlet_b106 E p0 x22 h39
            )
          ) else (
            f_X6_readOutlet_b106 E p0 x22 h25
          )
        )
      )
    )
  )
theorem w_X6_readOutlet_b0 (C0 : zCx p l e R s m args below meth c D B0 4 "FranchiseLedgerModel" cX6_readOutlet E 5 149 (Option.some Jvm.ClassFile.FieldType.boolean) "readOutlet") {r : Int32} {h' : zH} {p0 : Nat} {h : zH} (hf : f_X6_readOutlet_b0 E p0 h = some (r, h')) : zW p l e R s m args below meth c D B0 4 (zEnd D B0 R below args s (zoI r) h') h 0 [(0, .ref p0)] [] := by
  unfold f_X6_readOutlet_b0 at hf
  refine zr_aload_n C0 dX6_readOutlet_0 rfl 0 rfl ?_
  obtain ⟨x1, e2, hf⟩ := zbind hf
  refine zr_get C0 fl_X6_9_X6 dX6_readOutlet_1 (zgR e2) ?_
  refine zr_sipush C0 (v := 15165) dX6_readOutlet_4 (by decide) ?_
  obtain ⟨x3, e4, hf⟩ := zbind hf
  refine zr_lald C0 dX6_readOutlet_7 e4 ?_
  refine zr_ldc2 C0 (v := 16) q2757 dX6_readOutlet_8 ?_
  refine zr_lcmp C0 dX6_readOutlet_11 ?_
  refine zr_if_ne C0 (tgt := 21) dX6_readOutlet_12 (by decide) (fun c5 => ?_) (fun c5 => ?_)
  · have hf := zif_f (zl_ne.mp c5) hf
    refine zr_aload_n C0 dX6_readOutlet_21 rfl 0 rfl ?_
    obtain ⟨_, e6, hf⟩ := zbind hf
    obtain ⟨x9, h7, e8, hf⟩ := zbind2 hf
    refine zr_callV_r C0 cv_X6_345_X6 rfl (zcko e6) (m_X6_advance C0.2.2.2.2.2.2.1 e8) (by decide) (by decide) rfl rfl (Nat.le_of_ble_eq_true rfl) dX6_readOutlet_22 rfl ?_
    refine zr_aload_n C0 dX6_readOutlet_25 rfl 0 rfl ?_
    refine zr_iconst C0 (v := 3) dX6_readOutlet_26 (by decide) ?_
    obtain ⟨_, e10, hf⟩ := zbind hf
    obtain ⟨x13, h11, e12, hf⟩ := zbind2 hf
    refine zr_callV_r C0 cv_X6_374_X6 rfl (zcko e10) (m_X6_readName C0.2.2.2.2.2.2.1 e12) (by decide) (by decide) rfl rfl (Nat.le_of_ble_eq_true rfl) dX6_readOutlet_27 rfl ?_
    refine zr_istore_n (i := 1) (lv' := [(1, .int x13), (0, .ref p0)]) C0 dX6_readOutlet_30 rfl (by decide) (by first | rfl | simp [zst1, zst2, zcat_rf]) ?_
    refine zr_iload_n C0 dX6_readOutlet_31 rfl 0 rfl ?_
    refine zr_iconst C0 (v := -1) dX6_readOutlet_32 (by decide) ?_
    refine zr_icmp_eq C0 (tgt := 46) dX6_readOutlet_33 (by decide) (fun c14 => ?_) (fun c14 => ?_)
    · have hf := zif_t c14 hf
      refine zr_sub [] rfl ?_
      exact w_X6_readOutlet_b46 C0 hf
    · have hf := zif_f c14 hf
      refine zr_aload_n C0 dX6_readOutlet_36 rfl 1 rfl ?_
      refine zr_iconst C0 (v := 0) dX6_readOutlet_37 (by decide) ?_
      refine zr_bipush C0 (v := 29) dX6_readOutlet_38 (by decide) ?_
      obtain ⟨_, e15, hf⟩ := zbind hf
      obtain ⟨x18, h16, e17, hf⟩ := zbind2 hf
      refine zr_callV_r C0 cv_X6_348_X6 rfl (zcko e15) (m_X6_readNumber C0.2.2.2.2.2.2.1 e17) (by decide) (by decide) rfl rfl (Nat.le_of_ble_eq_true rfl) dX6_readOutlet_40 rfl ?_
      refine zr_if_ne C0 (tgt := 48) dX6_readOutlet_43 (by decide) (fun c19 => ?_) (fun c19 => ?_)
      · have hf := zif_f c19 hf
        refine zr_aload_n C0 dX6_readOutlet_48 rfl 1 rfl ?_
        obtain ⟨x20, e21, hf⟩ := zbind hf
        refine zr_get C0 fl_X6_342_X6 dX6_readOutlet_49 (zgI e21) ?_
        refine zr_istore_n (i := 2) (lv' := [(2, .int x20), (1, .int x13), (0, .ref p0)]) C0 dX6_readOutlet_52 rfl (by decide) (by first | rfl | simp [zst1, zst2, zcat_rf]) ?_
        refine zr_aload_n C0 dX6_readOutlet_53 rfl 2 rfl ?_
        obtain ⟨x22, e23, hf⟩ := zbind hf
        refine zr_get C0 fl_X6_319_X6 dX6_readOutlet_54 (zgI e23) ?_
        refine zr_istore_n (i := 3) (lv' := [(3, .int x22), (2, .int x20), (1, .int x13), (0, .ref p0)]) C0 dX6_readOutlet_57 rfl (by decide) (by first | rfl | simp [zst1, zst2, zcat_rf]) ?_
        refine zr_aload_n C0 dX6_readOutlet_58 rfl 3 rfl ?_
        refine zr_iconst C0 (v := 0) dX6_readOutlet_59 (by decide) ?_
        refine zr_bipush C0 (v := 29) dX6_readOutlet_60 (by decide) ?_
        obtain ⟨_, e24, hf⟩ := zbind hf
        obtain ⟨x27, h25, e26, hf⟩ := zbind2 hf
        refine zr_callV_r C0 cv_X6_348_X6 rfl (zcko e24) (m_X6_readNumber C0.2.2.2.2.2.2.1 e26) (by decide) (by decide) rfl rfl (Nat.le_of_ble_eq_true rfl) dX6_readOutlet_62 rfl ?_
        refine zr_if_ne C0 (tgt := 70) dX6_readOutlet_65 (by decide) (fun c28 => ?_) (fun c28 => ?_)
        · have hf := zif_f c28 hf
          refine zr_aload_n C0 dX6_readOutlet_70 rfl 3 rfl ?_
          obtain ⟨x29, e30, hf⟩ := zbind hf
          refine zr_get C0 fl_X6_9_X6 dX6_readOutlet_71 (zgR e30) ?_
          refine zr_sipush C0 (v := 15412) dX6_readOutlet_74 (by decide) ?_
          refine zr_bipush C0 (v := 30) dX6_readOutlet_77 (by decide) ?_
          refine zr_aload_n C0 dX6_readOutlet_79 rfl 3 rfl ?_
          obtain ⟨x31, e32, hf⟩ := zbind hf
          refine zr_get C0 fl_X6_342_X6 dX6_readOutlet_80 (zgI e32) ?_
          refine zr_imul C0 dX6_readOutlet_83 ?_
          refine zr_iadd C0 dX6_readOutlet_84 ?_
          refine zr_iload_n C0 dX6_readOutlet_85 rfl 1 rfl ?_
          refine zr_iadd C0 dX6_readOutlet_86 ?_
          obtain ⟨x33, e34, hf⟩ := zbind hf
          refine zr_lald C0 dX6_readOutlet_87 e34 ?_
          refine zr_iload_n C0 dX6_readOutlet_88 rfl 2 rfl ?_
          refine zr_i2l C0 dX6_readOutlet_89 ?_
          refine zr_lcmp C0 dX6_readOutlet_90 ?_
          refine zr_if_ne C0 (tgt := 106) dX6_readOutlet_91 (by decide) (fun c35 => ?_) (fun c35 => ?_)
          · have hf := zif_f (zl_ne.mp c35) hf
            refine zr_sub [3, 0] rfl ?_
            exact w_X6_readOutlet_b106 C0 hf
          · have hf := zif_t (zl_nen.mp c35) hf
            refine zr_aload_n C0 dX6_readOutlet_94 rfl 3 rfl ?_
            refine zr_iload_n C0 dX6_readOutlet_95 rfl 1 rfl ?_
            refine zr_aload_n C0 dX6_readOutlet_96 rfl 3 rfl ?_
            obtain ⟨x36, e37, hf⟩ := zbind hf
            refine zr_get C0 fl_X6_342_X6 dX6_readOutlet_97 (zgI e37) ?_
            obtain ⟨_, e38, hf⟩ := zbind hf
            obtain ⟨x41, h39, e40, hf⟩ := zbind2 hf
            refine zr_callV_r C0 cv_X6_380_X6 rfl (zcko e38) (m_X6_hasOutletRead C0.2.2.2.2.2.2.1 e40) (by decide) (by decide) rfl rfl (Nat.le_of_ble_eq_true rfl) dX6_readOutlet_100 rfl ?_
            refine zr_if_eq C0 (tgt := 117) dX6_readOutlet_103 (by decide) (fun c42 => ?_) (fun c42 => ?_)
            · have hf := zif_t c42 hf
              refine zr_aload_n C0 dX6_readOutlet_117 rfl 3 rfl ?_
              refine zr_iconst C0 (v := 3) dX6_readOutlet_118 (by decide) ?_
              refine zr_iload_n C0 dX6_readOutlet_119 rfl 2 rfl ?_
              refine zr_iload_n C0 dX6_readOutlet_120 rfl 1 rfl ?_
              refine zr_aload_n C0 dX6_readOutlet_121 rfl 3 rfl ?_
              obtain ⟨x43, e44, hf⟩ := zbind hf
              refine zr_get C0 fl_X6_342_X6 dX6_readOutlet_122 (zgI e44) ?_
              obtain ⟨_, e45, hf⟩ := zbind hf
              obtain ⟨x48, h46, e47, hf⟩ := zbind2 hf
              refine zr_callV_r C0 cv_X6_148_X6 rfl (zcko e45) (m_X6_putOutlet C0.2.2.2.2.2.2.1 e47) (by decide) (by decide) rfl rfl (Nat.le_of_ble_eq_true rfl) dX6_readOutlet_125 rfl ?_
              refine zr_aload_n C0 dX6_readOutlet_128 rfl 3 rfl ?_
              obtain ⟨_, e49, hf⟩ := zbind hf
              obtain ⟨x52, h50, e51, hf⟩ := zbind2 hf
              refine zr_callV_r C0 cv_X6_361_X6 rfl (zcko e49) (m_X6_readEnd C0.2.2.2.2.2.2.1 e51) (by decide) (by decide) rfl rfl (Nat.le_of_ble_eq_true rfl) dX6_readOutlet_129 rfl ?_
              obtain ⟨_, e53, hf⟩ := zbind hf
              refine zretW hf ?_
              exact zr_iret C0 (ty := .boolean) rfl (zgd_n e53) dX6_readOutlet_132 rfl
            · have hf := zif_f c42 hf
              refine zr_sub [3, 0] rfl ?_
              exact w_X6_readOutlet_b106 C0 hf
        · have hf := zif_t c28 hf
          refine zr_iconst C0 (v := 0) dX6_readOutlet_68 (by decide) ?_
          refine zretW hf ?_
          exact zr_iret C0 (ty := .boolean) rfl (by decide) dX6_readOutlet_69 rfl
      · have hf := zif_t c19 hf
        refine zr_sub [] rfl ?_
        exact w_X6_readOutlet_b46 C0 hf
  · have hf := zif_t (zl_nen.mp c5) hf
    refine zr_aload_n C0 dX6_readOutlet_15 rfl 0 rfl ?_
    refine zr_iconst C0 (v := 4) dX6_readOutlet_16 (by decide) ?_
    obtain ⟨_, e54, hf⟩ := zbind hf
    obtain ⟨x57, h55, e56, hf⟩ := zbind2 hf
    refine zr_callV_r C0 cv_X6_339_X6 rfl (zcko e54) (m_X6_fail C0.2.2.2.2.2.2.1 e56) (by decide) (by decide) rfl rfl (Nat.le_of_ble_eq_true rfl) dX6_readOutlet_17 rfl ?_
    obtain ⟨_, e58, hf⟩ := zbind hf
    refine zretW hf ?_
    exact zr_iret C0 (ty := .boolean) rfl (zgd_n e58) dX6_readOutlet_20 rfl
def f_X6_readOutlet (E : zE) (p0 : Nat) (h : zH) : Option (Int32 × zH) := f_X6_readOutlet_b0 E p0 h
theorem m_X6_readOutlet {l : Launch} (hst : l.stackTraces = false) {D : zD} {B0 : Nat} {E : zE} {p0 : Nat} {h h' : zH} {r : Int32} (hf : f_X6_readOutlet E p0 h = some (r, h')) : zMet l yX6_readOutlet (ws_ yX6_readOutlet cX6_readOutlet 4 (Option.some Jvm.ClassFile.FieldType.boolean)) 5 149 D B0 E [.ref p0] h (zoI r) h' := by
  unfold f_X6_readOutlet at hf
  refine zMet_of hst (by decide +kernel) rfl rfl (Nat.le_of_ble_eq_true rfl) (fun p e R s m below meth c C0 hno => ?_)
  show zW _ _ _ _ _ _ _ _ _ _ _ _ _ _ _ _ [(0, .ref p0)] []
  exact w_X6_readOutlet_b0 C0 hf
def f_X6_readSetting_b31 (E : zE) (s0 : Int32) (h : zH) : Option (Int32 × zH) :=
  (zgd .boolean s0).bind fun _ =>
  some (s0, h)
theorem w_X6_readSetting_b31 (C0 : zCx p l e R s m args below meth c D B0 5 "FranchiseLedgerModel" cX6_readSetting E 6 173 (Option.some Jvm.ClassFile.FieldType.boolean) "readSetting") {r : Int32} {h' : zH} {s0 : Int32} {h : zH} (hf : f_X6_readSetting_b31 E s0 h = some (r, h')) : zW p l e R s m args below meth c D B0 5 (zEnd D B0 R below args s (zoI r) h') h 31 [] [.int s0] := by
  unfold f_X6_readSetting_b31 at hf
  obtain ⟨_, e1, hf⟩ := zbind hf
  refine zretW hf ?_
  exact zr_iret C0 (ty := .boolean) rfl (zgd_n e1) dX6_readSetting_31 rfl
def f_X6_readSetting_b30 (E : zE) (h : zH) : Option (Int32 × zH) :=
  f_X6_readSetting_b31 E (0 : Int32) h
theorem w_X6_readSetting_b30 (C0 : zCx p l e R s m args below meth c D B0 5 "FranchiseLedgerModel" cX6_readSetting E 6 173 (Option.some Jvm.ClassFile.FieldType.boolean) "readSetting") {r : Int32} {h' : zH} {h : zH} (hf : f_X6_readSetting_b30 E  h = some (r, h')) : zW p l e R s m args below meth c D B0 5 (zEnd D B0 R below args s (zoI r) h') h 30 [] [] := by
  unfold f_X6_readSetting_b30 at hf
  refine zr_iconst C0 (v := 0) dX6_readSetting_30 (by decide) ?_
  exact w_X6_readSetting_b31 C0 hf
def f_X6_readSetting_b0 (E : zE) (p0 : Nat) (p1 : Int32) (p2 : Int32) (p3 : Int64) (h : zH) : Option (Int32 × zH) :=
  (cko h p0 1).bind fun _ =>
  bnd2 (f_X6_advance E p0 h) fun x4 h2 =>
  (cko h2 p0 1).bind fun _ =>
  bnd2 (f_X6_readInto E p0 ((15162 : Int32) + p1) (0 : Int32) p2 p3 h2) fun x8 h6 =>
  if x8 = 0 then (
    f_X6_readSetting_b30 E  h6
  ) else (
    (cko h6 p0 1).bind fun _ =>
    bnd2 (f_X6_readEnd E p0 h6) fun x13 h11 =>
    if x13 = 0 then (
      f_X6_readSetting_b30 E  h11
    ) else (
      f_X6_readSetting_b31 E (1 : Int32) h11
    )
  )
theorem w_X6_readSetting_b0 (C0 : zCx p l e R s m args below meth c D B0 5 "FranchiseLedgerModel" cX6_readSetting E 6 173 (Option.some Jvm.ClassFile.FieldType.boolean) "readSetting") {r : Int32} {h' : zH} {p0 : Nat} {p1 : Int32} {p2 : Int32} {p3 : Int64} {h : zH} (hf : f_X6_readSetting_b0 E p0 p1 p2 p3 h = some (r, h')) : zW p l e R s m args below meth c D B0 5 (zEnd D B0 R below args s (zoI r) h') h 0 [(0, .ref p0), (1, .int p1), (2, .int p2), (3, .long p3)] [] := by
  unfold f_X6_readSetting_b0 at hf
  refine zr_aload_n C0 dX6_readSetting_0 rfl 0 rfl ?_
  obtain ⟨_, e1, hf⟩ := zbind hf
  obtain ⟨x4, h2, e3, hf⟩ := zbind2 hf
  refine zr_callV_r C0 cv_X6_345_X6 rfl (zcko e1) (m_X6_advance C0.2.2.2.2.2.2.1 e3) (by decide) (by decide) rfl rfl (Nat.le_of_ble_eq_true rfl) dX6_readSetting_1 rfl ?_
  refine zr_aload_n C0 dX6_readSetting_4 rfl 0 rfl ?_
  refine zr_sipush C0 (v := 15162) dX6_readSetting_5 (by decide) ?_
  refine zr_iload_n C0 dX6_readSetting_8 rfl 1 rfl ?_
  refine zr_iadd C0 dX6_readSetting_9 ?_
  refine zr_iconst C0 (v := 0) dX6_readSetting_10 (by decide) ?_
  refine zr_iload_n C0 dX6_readSetting_11 rfl 2 rfl ?_
  refine zr_lload_n C0 dX6_readSetting_12 rfl 3 rfl ?_
  obtain ⟨_, e5, hf⟩ := zbind hf
  obtain ⟨x8, h6, e7, hf⟩ := zbind2 hf
  refine zr_callV_r C0 cv_X6_355_X6 rfl (zcko e5) (m_X6_readInto C0.2.2.2.2.2.2.1 e7) (by decide) (by decide) rfl rfl (Nat.le_of_ble_eq_true rfl) dX6_readSetting_13 rfl ?_
  refine zr_if_eq C0 (tgt := 30) dX6_readSetting_16 (by decide) (fun c9 => ?_) (fun c9 => ?_)
  · have hf := zif_t c9 hf
    refine zr_sub [] rfl ?_
    exact w_X6_readSetting_b30 C0 hf
  · have hf := zif_f c9 hf
    refine zr_aload_n C0 dX6_readSetting_19 rfl 0 rfl ?_
    obtain ⟨_, e10, hf⟩ := zbind hf
    obtain ⟨x13, h11, e12, hf⟩ := zbind2 hf
    refine zr_callV_r C0 cv_X6_361_X6 rfl (zcko e10) (m_X6_readEnd C0.2.2.2.2.2.2.1 e12) (by decide) (by decide) rfl rfl (Nat.le_of_ble_eq_true rfl) dX6_readSetting_20 rfl ?_
    refine zr_if_eq C0 (tgt := 30) dX6_readSetting_23 (by decide) (fun c14 => ?_) (fun c14 => ?_)
    · have hf := zif_t c14 hf
      refine zr_sub [] rfl ?_
      exact w_X6_readSetting_b30 C0 hf
    · have hf := zif_f c14 hf
      refine zr_iconst C0 (v := 1) dX6_readSetting_26 (by decide) ?_
      refine zr_goto C0 (tgt := 31) dX6_readSetting_27 (by decide) ?_
      refine zr_sub [] rfl ?_
      exact w_X6_readSetting_b31 C0 hf
def f_X6_readSetting (E : zE) (p0 : Nat) (p1 : Int32) (p2 : Int32) (p3 : Int64) (h : zH) : Option (Int32 × zH) := f_X6_readSetting_b0 E p0 p1 p2 p3 h
theorem m_X6_readSetting {l : Launch} (hst : l.stackTraces = false) {D : zD} {B0 : Nat} {E : zE} {p0 : Nat} {p1 : Int32} {p2 : Int32} {p3 : Int64} {h h' : zH} {r : Int32} (hf : f_X6_readSetting E p0 p1 p2 p3 h = some (r, h')) : zMet l yX6_readSetting (ws_ yX6_readSetting cX6_readSetting 5 (Option.some Jvm.ClassFile.FieldType.boolean)) 6 173 D B0 E [.ref p0, .int p1, .int p2, .long p3] h (zoI r) h' := by
  unfold f_X6_readSetting at hf
  refine zMet_of hst (by decide +kernel) rfl rfl (Nat.le_of_ble_eq_true rfl) (fun p e R s m below meth c C0 hno => ?_)
  show zW _ _ _ _ _ _ _ _ _ _ _ _ _ _ _ _ [(0, .ref p0), (1, .int p1), (2, .int p2), (3, .long p3)] []
  exact w_X6_readSetting_b0 C0 hf
def f_X6_readStatement_b128 (E : zE) (s0 : Int32) (h : zH) : Option (Int32 × zH) :=
  (zgd .boolean s0).bind fun _ =>
  some (s0, h)
theorem w_X6_readStatement_b128 (C0 : zCx p l e R s m args below meth c D B0 1 "FranchiseLedgerModel" cX6_readStatement E 7 197 (Option.some Jvm.ClassFile.FieldType.boolean) "readStatement") {r : Int32} {h' : zH} {s0 : Int32} {h : zH} (hf : f_X6_readStatement_b128 E s0 h = some (r, h')) : zW p l e R s m args below meth c D B0 1 (zEnd D B0 R below args s (zoI r) h') h 128 [] [.int s0] := by
  unfold f_X6_readStatement_b128 at hf
  obtain ⟨_, e1, hf⟩ := zbind hf
  refine zretW hf ?_
  exact zr_iret C0 (ty := .boolean) rfl (zgd_n e1) dX6_readStatement_128 rfl
def f_X6_readStatement_b127 (E : zE) (h : zH) : Option (Int32 × zH) :=
  f_X6_readStatement_b128 E (0 : Int32) h
theorem w_X6_readStatement_b127 (C0 : zCx p l e R s m args below meth c D B0 1 "FranchiseLedgerModel" cX6_readStatement E 7 197 (Option.some Jvm.ClassFile.FieldType.boolean) "readStatement") {r : Int32} {h' : zH} {h : zH} (hf : f_X6_readStatement_b127 E  h = some (r, h')) : zW p l e R s m args below meth c D B0 1 (zEnd D B0 R below args s (zoI r) h') h 127 [] [] := by
  unfold f_X6_readStatement_b127 at hf
  refine zr_iconst C0 (v := 0) dX6_readStatement_127 (by decide) ?_
  exact w_X6_readStatement_b128 C0 hf
def f_X6_readStatement_b0 (E : zE) (p0 : Nat) (h : zH) : Option (Int32 × zH) :=
  (cko h p0 1).bind fun _ =>
  bnd2 (f_X6_statement E p0 h) fun x4 h2 =>
  if x4 = 0 then (
    (cko h2 p0 1).bind fun _ =>
    bnd2 (f_X6_readPlan E p0 h2) fun x9 h7 =>
    (zgd .boolean x9).bind fun _ =>
    some (x9, h7)
  ) else (
  if x4 = 1 then (
    (cko h2 p0 1).bind fun _ =>
    bnd2 (f_X6_readFranchisee E p0 h2) fun x15 h13 =>
    (zgd .boolean x15).bind fun _ =>
    some (x15, h13)
  ) else (
  if x4 = 2 then (
    (cko h2 p0 1).bind fun _ =>
    bnd2 (f_X6_readArea E p0 h2) fun x21 h19 =>
    (zgd .boolean x21).bind fun _ =>
    some (x21, h19)
  ) else (
  if x4 = 3 then (
    (cko h2 p0 1).bind fun _ =>
    bnd2 (f_X6_readOutlet E p0 h2) fun x27 h25 =>
    (zgd .boolean x27).bind fun _ =>
    some (x27, h25)
  ) else (
  if x4 = 4 then (
    (cko h2 p0 1).bind fun _ =>
    bnd2 (f_X6_advance E p0 h2) fun x33 h31 =>
    (cko h31 p0 1).bind fun _ =>
    bnd2 (f_X6_readInto E p0 (15166 : Int32) (0 : Int32) (5000 : Int32) (1 : Int64) h31) fun x37 h35 =>
    if x37 = 0 then (
      f_X6_readStatement_b127 E  h35
    ) else (
      (cko h35 p0 1).bind fun _ =>
      bnd2 (f_X6_readInto E p0 (15167 : Int32) (0 : Int32) (9999 : Int32) (100 : Int64) h35) fun x42 h40 =>
      if x42 = 0 then (
        f_X6_readStatement_b127 E  h40
      ) else (
        (cko h40 p0 1).bind fun _ =>
        bnd2 (f_X6_readEnd E p0 h40) fun x47 h45 =>
        if x47 = 0 then (
          f_X6_readStatement_b127 E  h45
        ) else (
          f_X6_readStatement_b128 E (1 : Int32) h45
        )
      )
    )
  ) else (
  if x4 = 5 then (
    (cko h2 p0 1).bind fun _ =>
    bnd2 (f_X6_readSetting E p0 (6 : Int32) (500 : Int32) (1 : Int64) h2) fun x53 h51 =>
    (zgd .boolean x53).bind fun _ =>
    some (x53, h51)
  ) else (
  if x4 = 6 then (
    (cko h2 p0 1).bind fun _ =>
    bnd2 (f_X6_readSetting E p0 (7 : Int32) (2000 : Int32) (1 : Int64) h2) fun x59 h57 =>
    (zgd .boolean x59).bind fun _ =>
    some (x59, h57)
  ) else (
  if x4 = 7 then (
    (cko h2 p0 1).bind fun _ =>
    bnd2 (f_X6_readSetting E p0 (8 : Int32) (9999 : Int32) (100 : Int64) h2) fun x65 h63 =>
    (zgd .boolean x65).bind fun _ =>
    some (x65, h63)
  ) else (
  if x4 = 8 then (
    (cko h2 p0 1).bind fun _ =>
    bnd2 (f_X6_readSetting E p0 (9 : Int32) (12 : Int32) (1 : Int64) h2) fun x71 h69 =>
    (zgd .boolean x71).bind fun _ =>
    some (x71, h69)
  ) else (
  if x4 = 9 then (
    (cko h2 p0 1).bind fun _ =>
    bnd2 (f_X6_readSetting E p0 (10 : Int32) (999 : Int32) (1 : Int64) h2) fun x77 h75 =>
    (zgd .boolean x77).bind fun _ =>
    some (x77, h75)
  ) else (
    (cko h2 p0 1).bind fun _ =>
    bnd2 (f_X6_fail E p0 (1 : Int32) h2) fun x82 h80 =>
    (zgd .boolean x82).bind fun _ =>
    some (x82, h80)
  ))))))))))
theorem w_X6_readStatement_b0 (C0 : zCx p l e R s m args below meth c D B0 1 "FranchiseLedgerModel" cX6_readStatement E 7 197 (Option.some Jvm.ClassFile.FieldType.boolean) "readStatement") {r : Int32} {h' : zH} {p0 : Nat} {h : zH} (hf : f_X6_readStatement_b0 E p0 h = some (r, h')) : zW p l e R s m args below meth c D B0 1 (zEnd D B0 R below args s (zoI r) h') h 0 [(0, .ref p0)] [] := by
  unfold f_X6_readStatement_b0 at hf
  refine zr_aload_n C0 dX6_readStatement_0 rfl 0 rfl ?_
  obtain ⟨_, e1, hf⟩ := zbind hf
  obtain ⟨x4, h2, e3, hf⟩ := zbind2 hf
  refine zr_callV_r C0 cv_X6_366_X6 rfl (zcko e1) (m_X6_statement C0.2.2.2.2.2.2.1 e3) (by decide) (by decide) rfl rfl (Nat.le_of_ble_eq_true rfl) dX6_readStatement_1 rfl ?_
  rcases Decidable.em (x4 = 0) with c5 | c5
  · have hf := zif_t c5 hf
    refine zr_tableIn C0 (v := 0) (tgt := 60) dX6_readStatement_4 c5 (by decide) (by decide) rfl (by decide) ?_
    refine zr_aload_n C0 dX6_readStatement_60 rfl 0 rfl ?_
    obtain ⟨_, e6, hf⟩ := zbind hf
    obtain ⟨x9, h7, e8, hf⟩ := zbind2 hf
    refine zr_callV_r C0 cv_X6_383_X6 rfl (zcko e6) (m_X6_readPlan C0.2.2.2.2.2.2.1 e8) (by decide) (by decide) rfl rfl (Nat.le_of_ble_eq_true rfl) dX6_readStatement_61 rfl ?_
    obtain ⟨_, e10, hf⟩ := zbind hf
    refine zretW hf ?_
    exact zr_iret C0 (ty := .boolean) rfl (zgd_n e10) dX6_readStatement_64 rfl
  have hf := zif_f c5 hf
  rcases Decidable.em (x4 = 1) with c11 | c11
  · have hf := zif_t c11 hf
    refine zr_tableIn C0 (v := 1) (tgt := 65) dX6_readStatement_4 c11 (by decide) (by decide) rfl (by decide) ?_
    refine zr_aload_n C0 dX6_readStatement_65 rfl 0 rfl ?_
    obtain ⟨_, e12, hf⟩ := zbind hf
    obtain ⟨x15, h13, e14, hf⟩ := zbind2 hf
    refine zr_callV_r C0 cv_X6_386_X6 rfl (zcko e12) (m_X6_readFranchisee C0.2.2.2.2.2.2.1 e14) (by decide) (by decide) rfl rfl (Nat.le_of_ble_eq_true rfl) dX6_readStatement_66 rfl ?_
    obtain ⟨_, e16, hf⟩ := zbind hf
    refine zretW hf ?_
    exact zr_iret C0 (ty := .boolean) rfl (zgd_n e16) dX6_readStatement_69 rfl
  have hf := zif_f c11 hf
  rcases Decidable.em (x4 = 2) with c17 | c17
  · have hf := zif_t c17 hf
    refine zr_tableIn C0 (v := 2) (tgt := 70) dX6_readStatement_4 c17 (by decide) (by decide) rfl (by decide) ?_
    refine zr_aload_n C0 dX6_readStatement_70 rfl 0 rfl ?_
    obtain ⟨_, e18, hf⟩ := zbind hf
    obtain ⟨x21, h19, e20, hf⟩ := zbind2 hf
    refine zr_callV_r C0 cv_X6_389_X6 rfl (zcko e18) (m_X6_readArea C0.2.2.2.2.2.2.1 e20) (by decide) (by decide) rfl rfl (Nat.le_of_ble_eq_true rfl) dX6_readStatement_71 rfl ?_
    obtain ⟨_, e22, hf⟩ := zbind hf
    refine zretW hf ?_
    exact zr_iret C0 (ty := .boolean) rfl (zgd_n e22) dX6_readStatement_74 rfl
  have hf := zif_f c17 hf
  rcases Decidable.em (x4 = 3) with c23 | c23
  · have hf := zif_t c23 hf
    refine zr_tableIn C0 (v := 3) (tgt := 75) dX6_readStatement_4 c23 (by decide) (by decide) rfl (by decide) ?_
    refine zr_aload_n C0 dX6_readStatement_75 rfl 0 rfl ?_
    obtain ⟨_, e24, hf⟩ := zbind hf
    obtain ⟨x27, h25, e26, hf⟩ := zbind2 hf
    refine zr_callV_r C0 cv_X6_392_X6 rfl (zcko e24) (m_X6_readOutlet C0.2.2.2.2.2.2.1 e26) (by decide) (by decide) rfl rfl (Nat.le_of_ble_eq_true rfl) dX6_readStatement_76 rfl ?_
    obtain ⟨_, e28, hf⟩ := zbind hf
    refine zretW hf ?_
    exact zr_iret C0 (ty := .boolean) rfl (zgd_n e28) dX6_readStatement_79 rfl
  have hf := zif_f c23 hf
  rcases Decidable.em (x4 = 4) with c29 | c29
  · have hf := zif_t c29 hf
    refine zr_tableIn C0 (v := 4) (tgt := 80) dX6_readStatement_4 c29 (by decide) (by decide) rfl (by decide) ?_
    refine zr_aload_n C0 dX6_readStatement_80 rfl 0 rfl ?_
    obtain ⟨_, e30, hf⟩ := zbind hf
    obtain ⟨x33, h31, e32, hf⟩ := zbind2 hf
    refine zr_callV_r C0 cv_X6_345_X6 rfl (zcko e30) (m_X6_advance C0.2.2.2.2.2.2.1 e32) (by decide) (by decide) rfl rfl (Nat.le_of_ble_eq_true rfl) dX6_readStatement_81 rfl ?_
    refine zr_aload_n C0 dX6_readStatement_84 rfl 0 rfl ?_
    refine zr_sipush C0 (v := 15166) dX6_readStatement_85 (by decide) ?_
    refine zr_iconst C0 (v := 0) dX6_readStatement_88 (by decide) ?_
    refine zr_sipush C0 (v := 5000) dX6_readStatement_89 (by decide) ?_
    refine zr_lconst C0 (v := 1) dX6_readStatement_92 (by decide) ?_
    obtain ⟨_, e34, hf⟩ := zbind hf
    obtain ⟨x37, h35, e36, hf⟩ := zbind2 hf
    refine zr_callV_r C0 cv_X6_355_X6 rfl (zcko e34) (m_X6_readInto C0.2.2.2.2.2.2.1 e36) (by decide) (by decide) rfl rfl (Nat.le_of_ble_eq_true rfl) dX6_readStatement_93 rfl ?_
    refine zr_if_eq C0 (tgt := 127) dX6_readStatement_96 (by decide) (fun c38 => ?_) (fun c38 => ?_)
    · have hf := zif_t c38 hf
      refine zr_sub [] rfl ?_
      exact w_X6_readStatement_b127 C0 hf
    · have hf := zif_f c38 hf
      refine zr_aload_n C0 dX6_readStatement_99 rfl 0 rfl ?_
      refine zr_sipush C0 (v := 15167) dX6_readStatement_100 (by decide) ?_
      refine zr_iconst C0 (v := 0) dX6_readStatement_103 (by decide) ?_
      refine zr_sipush C0 (v := 9999) dX6_readStatement_104 (by decide) ?_
      refine zr_ldc2 C0 (v := 100) q2752 dX6_readStatement_107 ?_
      obtain ⟨_, e39, hf⟩ := zbind hf
      obtain ⟨x42, h40, e41, hf⟩ := zbind2 hf
      refine zr_callV_r C0 cv_X6_355_X6 rfl (zcko e39) (m_X6_readInto C0.2.2.2.2.2.2.1 e41) (by decide) (by decide) rfl rfl (Nat.le_of_ble_eq_true rfl) dX6_readStatement_110 rfl ?_
      refine zr_if_eq C0 (tgt := 127) dX6_readStatement_113 (by decide) (fun c43 => ?_) (fun c43 => ?_)
      · have hf := zif_t c43 hf
        refine zr_sub [] rfl ?_
        exact w_X6_readStatement_b127 C0 hf
      · have hf := zif_f c43 hf
        refine zr_aload_n C0 dX6_readStatement_116 rfl 0 rfl ?_
        obtain ⟨_, e44, hf⟩ := zbind hf
        obtain ⟨x47, h45, e46, hf⟩ := zbind2 hf
        refine zr_callV_r C0 cv_X6_361_X6 rfl (zcko e44) (m_X6_readEnd C0.2.2.2.2.2.2.1 e46) (by decide) (by decide) rfl rfl (Nat.le_of_ble_eq_true rfl) dX6_readStatement_117 rfl ?_
        refine zr_if_eq C0 (tgt := 127) dX6_readStatement_120 (by decide) (fun c48 => ?_) (fun c48 => ?_)
        · have hf := zif_t c48 hf
          refine zr_sub [] rfl ?_
          exact w_X6_readStatement_b127 C0 hf
        · have hf := zif_f c48 hf
          refine zr_iconst C0 (v := 1) dX6_readStatement_123 (by decide) ?_
          refine zr_goto C0 (tgt := 128) dX6_readStatement_124 (by decide) ?_
          refine zr_sub [] rfl ?_
          exact w_X6_readStatement_b128 C0 hf
  have hf := zif_f c29 hf
  rcases Decidable.em (x4 = 5) with c49 | c49
  · have hf := zif_t c49 hf
    refine zr_tableIn C0 (v := 5) (tgt := 129) dX6_readStatement_4 c49 (by decide) (by decide) rfl (by decide) ?_
    refine zr_aload_n C0 dX6_readStatement_129 rfl 0 rfl ?_
    refine zr_bipush C0 (v := 6) dX6_readStatement_130 (by decide) ?_
    refine zr_sipush C0 (v := 500) dX6_readStatement_132 (by decide) ?_
    refine zr_lconst C0 (v := 1) dX6_readStatement_135 (by decide) ?_
    obtain ⟨_, e50, hf⟩ := zbind hf
    obtain ⟨x53, h51, e52, hf⟩ := zbind2 hf
    refine zr_callV_r C0 cv_X6_395_X6 rfl (zcko e50) (m_X6_readSetting C0.2.2.2.2.2.2.1 e52) (by decide) (by decide) rfl rfl (Nat.le_of_ble_eq_true rfl) dX6_readStatement_136 rfl ?_
    obtain ⟨_, e54, hf⟩ := zbind hf
    refine zretW hf ?_
    exact zr_iret C0 (ty := .boolean) rfl (zgd_n e54) dX6_readStatement_139 rfl
  have hf := zif_f c49 hf
  rcases Decidable.em (x4 = 6) with c55 | c55
  · have hf := zif_t c55 hf
    refine zr_tableIn C0 (v := 6) (tgt := 140) dX6_readStatement_4 c55 (by decide) (by decide) rfl (by decide) ?_
    refine zr_aload_n C0 dX6_readStatement_140 rfl 0 rfl ?_
    refine zr_bipush C0 (v := 7) dX6_readStatement_141 (by decide) ?_
    refine zr_sipush C0 (v := 2000) dX6_readStatement_143 (by decide) ?_
    refine zr_lconst C0 (v := 1) dX6_readStatement_146 (by decide) ?_
    obtain ⟨_, e56, hf⟩ := zbind hf
    obtain ⟨x59, h57, e58, hf⟩ := zbind2 hf
    refine zr_callV_r C0 cv_X6_395_X6 rfl (zcko e56) (m_X6_readSetting C0.2.2.2.2.2.2.1 e58) (by decide) (by decide) rfl rfl (Nat.le_of_ble_eq_true rfl) dX6_readStatement_147 rfl ?_
    obtain ⟨_, e60, hf⟩ := zbind hf
    refine zretW hf ?_
    exact zr_iret C0 (ty := .boolean) rfl (zgd_n e60) dX6_readStatement_150 rfl
  have hf := zif_f c55 hf
  rcases Decidable.em (x4 = 7) with c61 | c61
  · have hf := zif_t c61 hf
    refine zr_tableIn C0 (v := 7) (tgt := 151) dX6_readStatement_4 c61 (by decide) (by decide) rfl (by decide) ?_
    refine zr_aload_n C0 dX6_readStatement_151 rfl 0 rfl ?_
    refine zr_bipush C0 (v := 8) dX6_readStatement_152 (by decide) ?_
    refine zr_sipush C0 (v := 9999) dX6_readStatement_154 (by decide) ?_
    refine zr_ldc2 C0 (v := 100) q2752 dX6_readStatement_157 ?_
    obtain ⟨_, e62, hf⟩ := zbind hf
    obtain ⟨x65, h63, e64, hf⟩ := zbind2 hf
    refine zr_callV_r C0 cv_X6_395_X6 rfl (zcko e62) (m_X6_readSetting C0.2.2.2.2.2.2.1 e64) (by decide) (by decide) rfl rfl (Nat.le_of_ble_eq_true rfl) dX6_readStatement_160 rfl ?_
    obtain ⟨_, e66, hf⟩ := zbind hf
    refine zretW hf ?_
    exact zr_iret C0 (ty := .boolean) rfl (zgd_n e66) dX6_readStatement_163 rfl
  have hf := zif_f c61 hf
  rcases Decidable.em (x4 = 8) with c67 | c67
  · have hf := zif_t c67 hf
    refine zr_tableIn C0 (v := 8) (tgt := 164) dX6_readStatement_4 c67 (by decide) (by decide) rfl (by decide) ?_
    refine zr_aload_n C0 dX6_readStatement_164 rfl 0 rfl ?_
    refine zr_bipush C0 (v := 9) dX6_readStatement_165 (by decide) ?_
    refine zr_bipush C0 (v := 12) dX6_readStatement_167 (by decide) ?_
    refine zr_lconst C0 (v := 1) dX6_readStatement_169 (by decide) ?_
    obtain ⟨_, e68, hf⟩ := zbind hf
    obtain ⟨x71, h69, e70, hf⟩ := zbind2 hf
    refine zr_callV_r C0 cv_X6_395_X6 rfl (zcko e68) (m_X6_readSetting C0.2.2.2.2.2.2.1 e70) (by decide) (by decide) rfl rfl (Nat.le_of_ble_eq_true rfl) dX6_readStatement_170 rfl ?_
    obtain ⟨_, e72, hf⟩ := zbind hf
    refine zretW hf ?_
    exact zr_iret C0 (ty := .boolean) rfl (zgd_n e72) dX6_readStatement_173 rfl
  have hf := zif_f c67 hf
  rcases Decidable.em (x4 = 9) with c73 | c73
  · have hf := zif_t c73 hf
    refine zr_tableIn C0 (v := 9) (tgt := 174) dX6_readStatement_4 c73 (by decide) (by decide) rfl (by decide) ?_
    refine zr_aload_n C0 dX6_readStatement_174 rfl 0 rfl ?_
    refine zr_bipush C0 (v := 10) dX6_readStatement_175 (by decide) ?_
    refine zr_sipush C0 (v := 999) dX6_readStatement_177 (by decide) ?_
    refine zr_lconst C0 (v := 1) dX6_readStatement_180 (by decide) ?_
    obtain ⟨_, e74, hf⟩ := zbind hf
    obtain ⟨x77, h75, e76, hf⟩ := zbind2 hf
    refine zr_callV_r C0 cv_X6_395_X6 rfl (zcko e74) (m_X6_readSetting C0.2.2.2.2.2.2.1 e76) (by decide) (by decide) rfl rfl (Nat.le_of_ble_eq_true rfl) dX6_readStatement_181 rfl ?_
    obtain ⟨_, e78, hf⟩ := zbind hf
    refine zretW hf ?_
    exact zr_iret C0 (ty := .boolean) rfl (zgd_n e78) dX6_readStatement_184 rfl
  have hf := zif_f c73 hf
  refine zr_tableOut C0 (tgt := 185) dX6_readStatement_4 ?_ (by decide) ?_
  · have n0 := lv_neT (a := 0) c5 rfl; have n1 := lv_neT (a := 1) c11 rfl; have n2 := lv_neT (a := 2) c17 rfl; have n3 := lv_neT (a := 3) c23 rfl; have n4 := lv_neT (a := 4) c29 rfl; have n5 := lv_neT (a := 5) c49 rfl; have n6 := lv_neT (a := 6) c55 rfl; have n7 := lv_neT (a := 7) c61 rfl; have n8 := lv_neT (a := 8) c67 rfl; have n9 := lv_neT (a := 9) c73 rfl; omega
  refine zr_aload_n C0 dX6_readStatement_185 rfl 0 rfl ?_
  refine zr_iconst C0 (v := 1) dX6_readStatement_186 (by decide) ?_
  obtain ⟨_, e79, hf⟩ := zbind hf
  obtain ⟨x82, h80, e81, hf⟩ := zbind2 hf
  refine zr_callV_r C0 cv_X6_339_X6 rfl (zcko e79) (m_X6_fail C0.2.2.2.2.2.2.1 e81) (by decide) (by decide) rfl rfl (Nat.le_of_ble_eq_true rfl) dX6_readStatement_187 rfl ?_
  obtain ⟨_, e83, hf⟩ := zbind hf
  refine zretW hf ?_
  exact zr_iret C0 (ty := .boolean) rfl (zgd_n e83) dX6_readStatement_190 rfl
def f_X6_readStatement (E : zE) (p0 : Nat) (h : zH) : Option (Int32 × zH) := f_X6_readStatement_b0 E p0 h
theorem m_X6_readStatement {l : Launch} (hst : l.stackTraces = false) {D : zD} {B0 : Nat} {E : zE} {p0 : Nat} {h h' : zH} {r : Int32} (hf : f_X6_readStatement E p0 h = some (r, h')) : zMet l yX6_readStatement (ws_ yX6_readStatement cX6_readStatement 1 (Option.some Jvm.ClassFile.FieldType.boolean)) 7 197 D B0 E [.ref p0] h (zoI r) h' := by
  unfold f_X6_readStatement at hf
  refine zMet_of hst (by decide +kernel) rfl rfl (Nat.le_of_ble_eq_true rfl) (fun p e R s m below meth c C0 hno => ?_)
  show zW _ _ _ _ _ _ _ _ _ _ _ _ _ _ _ _ [(0, .ref p0)] []
  exact w_X6_readStatement_b0 C0 hf
def f_X6_load_b43 (E : zE) (p0 : Nat) (p1 : Int32) (h : zH) : Option (Int32 × zH) :=
  (pF h p0 1 9 (.int (0 : Int32))).bind fun h1 =>
  (gI h1 p0 1 11).bind fun x3 =>
  if x3 = 0 then (
    (cko h1 p0 1).bind fun _ =>
    bnd2 (f_X6_copyBlock E p0 (3 : Int32) (0 : Int32) h1) fun x9 h7 =>
    (pF h7 p0 1 19 (.int (0 : Int32))).bind fun h10 =>
    (pF h10 p0 1 20 (.int (0 : Int32))).bind fun h12 =>
    (gR h12 p0 1 1).bind fun x14 =>
    (sI h12 x14 3 (0 : Int32) (0 : Int32)).bind fun h16 =>
    (gR h16 p0 1 1).bind fun x18 =>
    (sI h16 x18 3 (1 : Int32) (0 : Int32)).bind fun h20 =>
    some (p1, h20)
  ) else (
    some ((-4 : Int32), h1)
  )
theorem w_X6_load_b43 (C0 : zCx p l e R s m args below meth c D B0 2 "FranchiseLedgerModel" cX6_load E 8 217 (Option.some Jvm.ClassFile.FieldType.int) "load") {r : Int32} {h' : zH} {p0 : Nat} {p1 : Int32} {h : zH} (hf : f_X6_load_b43 E p0 p1 h = some (r, h')) : zW p l e R s m args below meth c D B0 2 (zEnd D B0 R below args s (zoI r) h') h 43 [(0, .ref p0), (1, .int p1)] [] := by
  unfold f_X6_load_b43 at hf
  refine zr_aload_n C0 dX6_load_43 rfl 0 rfl ?_
  refine zr_iconst C0 (v := 0) dX6_load_44 (by decide) ?_
  obtain ⟨h1, e2, hf⟩ := zbind hf
  refine zr_put C0 pl_X6_296_X6 dX6_load_45 (fun h => by cases h) rfl rfl e2 ?_
  refine zr_aload_n C0 dX6_load_48 rfl 0 rfl ?_
  obtain ⟨x3, e4, hf⟩ := zbind hf
  refine zr_get C0 fl_X6_302_X6 dX6_load_49 (zgI e4) ?_
  refine zr_if_eq C0 (tgt := 58) dX6_load_52 (by decide) (fun c5 => ?_) (fun c5 => ?_)
  · have hf := zif_t c5 hf
    refine zr_aload_n C0 dX6_load_58 rfl 0 rfl ?_
    refine zr_iconst C0 (v := 3) dX6_load_59 (by decide) ?_
    refine zr_iconst C0 (v := 0) dX6_load_60 (by decide) ?_
    obtain ⟨_, e6, hf⟩ := zbind hf
    obtain ⟨x9, h7, e8, hf⟩ := zbind2 hf
    refine zr_callV_r C0 cv_X6_57_X6 rfl (zcko e6) (m_X6_copyBlock C0.2.2.2.2.2.2.1 e8) (by decide) (by decide) rfl rfl (Nat.le_of_ble_eq_true rfl) dX6_load_61 rfl ?_
    refine zr_aload_n C0 dX6_load_64 rfl 0 rfl ?_
    refine zr_iconst C0 (v := 0) dX6_load_65 (by decide) ?_
    obtain ⟨h10, e11, hf⟩ := zbind hf
    refine zr_put C0 pl_X6_75_X6 dX6_load_66 (fun h => by cases h) rfl rfl e11 ?_
    refine zr_aload_n C0 dX6_load_69 rfl 0 rfl ?_
    refine zr_iconst C0 (v := 0) dX6_load_70 (by decide) ?_
    obtain ⟨h12, e13, hf⟩ := zbind hf
    refine zr_put C0 pl_X6_78_X6 dX6_load_71 (fun h => by cases h) rfl rfl e13 ?_
    refine zr_aload_n C0 dX6_load_74 rfl 0 rfl ?_
    obtain ⟨x14, e15, hf⟩ := zbind hf
    refine zr_get C0 fl_X6_13_X6 dX6_load_75 (zgR e15) ?_
    refine zr_iconst C0 (v := 0) dX6_load_78 (by decide) ?_
    refine zr_iconst C0 (v := 0) dX6_load_79 (by decide) ?_
    obtain ⟨h16, e17, hf⟩ := zbind hf
    refine zr_zast C0 dX6_load_80 (Or.inl rfl) e17 ?_
    refine zr_aload_n C0 dX6_load_81 rfl 0 rfl ?_
    obtain ⟨x18, e19, hf⟩ := zbind hf
    refine zr_get C0 fl_X6_13_X6 dX6_load_82 (zgR e19) ?_
    refine zr_iconst C0 (v := 1) dX6_load_85 (by decide) ?_
    refine zr_iconst C0 (v := 0) dX6_load_86 (by decide) ?_
    obtain ⟨h20, e21, hf⟩ := zbind hf
    refine zr_zast C0 dX6_load_87 (Or.inl rfl) e21 ?_
    refine zr_iload_n C0 dX6_load_88 rfl 1 rfl ?_
    refine zretW hf ?_
    exact zr_iret C0 (ty := .int) rfl rfl dX6_load_89 rfl
  · have hf := zif_f c5 hf
    refine zr_bipush C0 (v := -4) dX6_load_55 (by decide) ?_
    refine zretW hf ?_
    exact zr_iret C0 (ty := .int) rfl rfl dX6_load_57 rfl
def f_X6_load_l16 (E : zE) : Nat → Nat → Int32 → zH → Option (Int32 × zH)
  | 0, _, _, _ => none
  | n + 1, p0, p1, h =>
    (gI h p0 1 11).bind fun x1 =>
    if x1 = 0 then (
      (gI h p0 1 13).bind fun x4 =>
      if x4 = 0 then (
        f_X6_load_b43 E p0 p1 h
      ) else (
        (cko h p0 1).bind fun _ =>
        bnd2 (f_X6_readStatement E p0 h) fun x10 h8 =>
        if x10 = 0 then (
          f_X6_load_l16 E n p0 p1 h8
        ) else (
          f_X6_load_l16 E n p0 (p1 + 1) h8
        )
      )
    ) else (
      f_X6_load_b43 E p0 p1 h
    )
theorem w_X6_load_l16 (C0 : zCx p l e R s m args below meth c D B0 2 "FranchiseLedgerModel" cX6_load E 8 217 (Option.some Jvm.ClassFile.FieldType.int) "load") {r : Int32} {h' : zH} : ∀ (n : Nat) (p0 : Nat) (p1 : Int32) (h : zH), f_X6_load_l16 E n p0 p1 h = some (r, h') → zW p l e R s m args below meth c D B0 2 (zEnd D B0 R below args s (zoI r) h') h 16 [(0, .ref p0), (1, .int p1)] [] := by
  intro n
  induction n with
  | zero =>
    intro p0 p1 h hf
    unfold f_X6_load_l16 at hf
    cases hf
  | succ n ih =>
    intro p0 p1 h hf
    unfold f_X6_load_l16 at hf
    refine zr_aload_n C0 dX6_load_16 rfl 0 rfl ?_
    obtain ⟨x1, e2, hf⟩ := zbind hf
    refine zr_get C0 fl_X6_302_X6 dX6_load_17 (zgI e2) ?_
    refine zr_if_ne C0 (tgt := 43) dX6_load_20 (by decide) (fun c3 => ?_) (fun c3 => ?_)
    · have hf := zif_f c3 hf
      exact w_X6_load_b43 C0 hf
    · have hf := zif_t c3 hf
      refine zr_aload_n C0 dX6_load_23 rfl 0 rfl ?_
      obtain ⟨x4, e5, hf⟩ := zbind hf
      refine zr_get C0 fl_X6_332_X6 dX6_load_24 (zgI e5) ?_
      refine zr_if_eq C0 (tgt := 43) dX6_load_27 (by decide) (fun c6 => ?_) (fun c6 => ?_)
      · have hf := zif_t c6 hf
        exact w_X6_load_b43 C0 hf
      · have hf := zif_f c6 hf
        refine zr_aload_n C0 dX6_load_30 rfl 0 rfl ?_
        obtain ⟨_, e7, hf⟩ := zbind hf
        obtain ⟨x10, h8, e9, hf⟩ := zbind2 hf
        refine zr_callV_r C0 cv_X6_402_X6 rfl (zcko e7) (m_X6_readStatement C0.2.2.2.2.2.2.1 e9) (by decide) (by decide) rfl rfl (Nat.le_of_ble_eq_true rfl) dX6_load_31 rfl ?_
        refine zr_if_eq C0 (tgt := 16) dX6_load_34 (by decide) (fun c11 => ?_) (fun c11 => ?_)
        · have hf := zif_t c11 hf
          exact ih _ _ _ hf
        · have hf := zif_f c11 hf
          refine zr_iinc (lv' := [(1, .int (p1 + 1)), (0, .ref p0)]) C0 dX6_load_37 1 rfl rfl (by decide) (by first | rfl | simp [zst1, zst2, zcat_rf]) ?_
          refine zr_goto C0 (tgt := 16) dX6_load_40 (by decide) ?_
          refine zr_sub [1, 0] rfl ?_
          exact ih _ _ _ hf
def f_X6_load_b0 (E : zE) (p0 : Nat) (h : zH) : Option (Int32 × zH) :=
  (pF h p0 1 2 (.int (0 : Int32))).bind fun h1 =>
  (cko h1 p0 1).bind fun _ =>
  bnd2 (f_X6_clearBlock E p0 (3 : Int32) h1) fun x6 h4 =>
  (cko h4 p0 1).bind fun _ =>
  bnd2 (f_X6_beginText E p0 h4) fun x10 h8 =>
  f_X6_load_l16 E E.1 p0 (0 : Int32) h8
theorem w_X6_load_b0 (C0 : zCx p l e R s m args below meth c D B0 2 "FranchiseLedgerModel" cX6_load E 8 217 (Option.some Jvm.ClassFile.FieldType.int) "load") {r : Int32} {h' : zH} {p0 : Nat} {h : zH} (hf : f_X6_load_b0 E p0 h = some (r, h')) : zW p l e R s m args below meth c D B0 2 (zEnd D B0 R below args s (zoI r) h') h 0 [(0, .ref p0)] [] := by
  unfold f_X6_load_b0 at hf
  refine zr_aload_n C0 dX6_load_0 rfl 0 rfl ?_
  refine zr_iconst C0 (v := 0) dX6_load_1 (by decide) ?_
  obtain ⟨h1, e2, hf⟩ := zbind hf
  refine zr_put C0 pl_X6_50_X6 dX6_load_2 (fun h => by cases h) rfl rfl e2 ?_
  refine zr_aload_n C0 dX6_load_5 rfl 0 rfl ?_
  refine zr_iconst C0 (v := 3) dX6_load_6 (by decide) ?_
  obtain ⟨_, e3, hf⟩ := zbind hf
  obtain ⟨x6, h4, e5, hf⟩ := zbind2 hf
  refine zr_callV_r C0 cv_X6_44_X6 rfl (zcko e3) (m_X6_clearBlock C0.2.2.2.2.2.2.1 e5) (by decide) (by decide) rfl rfl (Nat.le_of_ble_eq_true rfl) dX6_load_7 rfl ?_
  refine zr_aload_n C0 dX6_load_10 rfl 0 rfl ?_
  obtain ⟨_, e7, hf⟩ := zbind hf
  obtain ⟨x10, h8, e9, hf⟩ := zbind2 hf
  refine zr_callV_r C0 cv_X6_399_X6 rfl (zcko e7) (m_X6_beginText C0.2.2.2.2.2.2.1 e9) (by decide) (by decide) rfl rfl (Nat.le_of_ble_eq_true rfl) dX6_load_11 rfl ?_
  refine zr_iconst C0 (v := 0) dX6_load_14 (by decide) ?_
  refine zr_istore_n (i := 1) (lv' := [(1, .int (0 : Int32)), (0, .ref p0)]) C0 dX6_load_15 rfl (by decide) (by first | rfl | simp [zst1, zst2, zcat_rf]) ?_
  refine zr_sub [1, 0] rfl ?_
  exact w_X6_load_l16 C0 _ _ _ _ hf
def f_X6_load (E : zE) (p0 : Nat) (h : zH) : Option (Int32 × zH) := f_X6_load_b0 E p0 h
theorem m_X6_load {l : Launch} (hst : l.stackTraces = false) {D : zD} {B0 : Nat} {E : zE} {p0 : Nat} {h h' : zH} {r : Int32} (hf : f_X6_load E p0 h = some (r, h')) : zMet l yX6_load (ws_ yX6_load cX6_load 2 (Option.some Jvm.ClassFile.FieldType.int)) 8 217 D B0 E [.ref p0] h (zoI r) h' := by
  unfold f_X6_load at hf
  refine zMet_of hst (by decide +kernel) rfl rfl (Nat.le_of_ble_eq_true rfl) (fun p e R s m below meth c C0 hno => ?_)
  show zW _ _ _ _ _ _ _ _ _ _ _ _ _ _ _ _ [(0, .ref p0)] []
  exact w_X6_load_b0 C0 hf
def f_X6_entryKind_b203 (E : zE) (s0 : Int32) (h : zH) : Option (Int32 × zH) :=
  some (s0, h)
theorem w_X6_entryKind_b203 (C0 : zCx p l e R s m args below meth c D B0 1 "FranchiseLedgerModel" cX6_entryKind E 2 86 (Option.some Jvm.ClassFile.FieldType.int) "entryKind") {r : Int32} {h' : zH} {s0 : Int32} {h : zH} (hf : f_X6_entryKind_b203 E s0 h = some (r, h')) : zW p l e R s m args below meth c D B0 1 (zEnd D B0 R below args s (zoI r) h') h 203 [] [.int s0] := by
  unfold f_X6_entryKind_b203 at hf
  refine zretW hf ?_
  exact zr_iret C0 (ty := .int) rfl rfl dX6_entryKind_203 rfl
def f_X6_entryKind_b0 (E : zE) (p0 : Nat) (h : zH) : Option (Int32 × zH) :=
  (gI h p0 1 13).bind fun x1 =>
  if x1 = (1 : Int32) then (
    (gL h p0 1 16).bind fun x4 =>
    bnd2 (f_X6_pack E (115 : Int32) (97 : Int32) (108 : Int32) (101 : Int32) (115 : Int32) h) fun x8 h6 =>
    if x4 = x8 then (
      some ((0 : Int32), h6)
    ) else (
      (gL h6 p0 1 16).bind fun x10 =>
      bnd2 (f_X6_pack E (100 : Int32) (101 : Int32) (108 : Int32) (105 : Int32) (118 : Int32) h6) fun x14 h12 =>
      bnd2 (f_X6_pack E (101 : Int32) (114 : Int32) (0 : Int32) (0 : Int32) (0 : Int32) h12) fun x17 h15 =>
      if x10 = ((x14 * (1024 : Int64)) + x17) then (
        some ((1 : Int32), h15)
      ) else (
        (gL h15 p0 1 16).bind fun x19 =>
        bnd2 (f_X6_pack E (112 : Int32) (97 : Int32) (121 : Int32) (0 : Int32) (0 : Int32) h15) fun x23 h21 =>
        if x19 = x23 then (
          some ((2 : Int32), h21)
        ) else (
          (gL h21 p0 1 16).bind fun x25 =>
          bnd2 (f_X6_pack E (103 : Int32) (114 : Int32) (97 : Int32) (110 : Int32) (116 : Int32) h21) fun x29 h27 =>
          if x25 = x29 then (
            some ((3 : Int32), h27)
          ) else (
            (gL h27 p0 1 16).bind fun x31 =>
            bnd2 (f_X6_pack E (99 : Int32) (97 : Int32) (109 : Int32) (112 : Int32) (97 : Int32) h27) fun x35 h33 =>
            bnd2 (f_X6_pack E (105 : Int32) (103 : Int32) (110 : Int32) (0 : Int32) (0 : Int32) h33) fun x38 h36 =>
            if x31 = ((x35 * (32768 : Int64)) + x38) then (
              some ((4 : Int32), h36)
            ) else (
              (gL h36 p0 1 16).bind fun x40 =>
              bnd2 (f_X6_pack E (118 : Int32) (111 : Int32) (116 : Int32) (101 : Int32) (0 : Int32) h36) fun x44 h42 =>
              if x40 = x44 then (
                some ((5 : Int32), h42)
              ) else (
                (gL h42 p0 1 16).bind fun x46 =>
                bnd2 (f_X6_pack E (99 : Int32) (108 : Int32) (111 : Int32) (115 : Int32) (101 : Int32) h42) fun x50 h48 =>
                if x46 = x50 then (
                  f_X6_entryKind_b203 E (6 : Int32) h48
                ) else (
                  f_X6_entryKind_b203 E (-1 : Int32) h48
                )
              )
            )
          )
        )
      )
    )
  ) else (
    some ((-1 : Int32), h)
  )
theorem w_X6_entryKind_b0 (C0 : zCx p l e R s m args below meth c D B0 1 "FranchiseLedgerModel" cX6_entryKind E 2 86 (Option.some Jvm.ClassFile.FieldType.int) "entryKind") {r : Int32} {h' : zH} {p0 : Nat} {h : zH} (hf : f_X6_entryKind_b0 E p0 h = some (r, h')) : zW p l e R s m args below meth c D B0 1 (zEnd D B0 R below args s (zoI r) h') h 0 [(0, .ref p0)] [] := by
  unfold f_X6_entryKind_b0 at hf
  refine zr_aload_n C0 dX6_entryKind_0 rfl 0 rfl ?_
  obtain ⟨x1, e2, hf⟩ := zbind hf
  refine zr_get C0 fl_X6_332_X6 dX6_entryKind_1 (zgI e2) ?_
  refine zr_iconst C0 (v := 1) dX6_entryKind_4 (by decide) ?_
  refine zr_icmp_eq C0 (tgt := 10) dX6_entryKind_5 (by decide) (fun c3 => ?_) (fun c3 => ?_)
  · have hf := zif_t c3 hf
    refine zr_aload_n C0 dX6_entryKind_10 rfl 0 rfl ?_
    obtain ⟨x4, e5, hf⟩ := zbind hf
    refine zr_get C0 fl_X6_322_X6 dX6_entryKind_11 (zgL e5) ?_
    refine zr_bipush C0 (v := 115) dX6_entryKind_14 (by decide) ?_
    refine zr_bipush C0 (v := 97) dX6_entryKind_16 (by decide) ?_
    refine zr_bipush C0 (v := 108) dX6_entryKind_18 (by decide) ?_
    refine zr_bipush C0 (v := 101) dX6_entryKind_20 (by decide) ?_
    refine zr_bipush C0 (v := 115) dX6_entryKind_22 (by decide) ?_
    obtain ⟨x8, h6, e7, hf⟩ := zbind2 hf
    refine zr_callS_r C0 cv_X6_278 (m_X6_pack C0.2.2.2.2.2.2.1 e7) (by decide) (by decide) rfl rfl (Nat.le_of_ble_eq_true rfl) dX6_entryKind_24 rfl ?_
    refine zr_lcmp C0 dX6_entryKind_27 ?_
    refine zr_if_ne C0 (tgt := 33) dX6_entryKind_28 (by decide) (fun c9 => ?_) (fun c9 => ?_)
    · have hf := zif_f (zl_ne.mp c9) hf
      refine zr_aload_n C0 dX6_entryKind_33 rfl 0 rfl ?_
      obtain ⟨x10, e11, hf⟩ := zbind hf
      refine zr_get C0 fl_X6_322_X6 dX6_entryKind_34 (zgL e11) ?_
      refine zr_bipush C0 (v := 100) dX6_entryKind_37 (by decide) ?_
      refine zr_bipush C0 (v := 101) dX6_entryKind_39 (by decide) ?_
      refine zr_bipush C0 (v := 108) dX6_entryKind_41 (by decide) ?_
      refine zr_bipush C0 (v := 105) dX6_entryKind_43 (by decide) ?_
      refine zr_bipush C0 (v := 118) dX6_entryKind_45 (by decide) ?_
      obtain ⟨x14, h12, e13, hf⟩ := zbind2 hf
      refine zr_callS_r C0 cv_X6_278 (m_X6_pack C0.2.2.2.2.2.2.1 e13) (by decide) (by decide) rfl rfl (Nat.le_of_ble_eq_true rfl) dX6_entryKind_47 rfl ?_
      refine zr_ldc2 C0 (v := 1024) q3050 dX6_entryKind_50 ?_
      refine zr_lmul C0 dX6_entryKind_53 ?_
      refine zr_bipush C0 (v := 101) dX6_entryKind_54 (by decide) ?_
      refine zr_bipush C0 (v := 114) dX6_entryKind_56 (by decide) ?_
      refine zr_iconst C0 (v := 0) dX6_entryKind_58 (by decide) ?_
      refine zr_iconst C0 (v := 0) dX6_entryKind_59 (by decide) ?_
      refine zr_iconst C0 (v := 0) dX6_entryKind_60 (by decide) ?_
      obtain ⟨x17, h15, e16, hf⟩ := zbind2 hf
      refine zr_callS_r C0 cv_X6_278 (m_X6_pack C0.2.2.2.2.2.2.1 e16) (by decide) (by decide) rfl rfl (Nat.le_of_ble_eq_true rfl) dX6_entryKind_61 rfl ?_
      refine zr_ladd C0 dX6_entryKind_64 ?_
      refine zr_lcmp C0 dX6_entryKind_65 ?_
      refine zr_if_ne C0 (tgt := 71) dX6_entryKind_66 (by decide) (fun c18 => ?_) (fun c18 => ?_)
      · have hf := zif_f (zl_ne.mp c18) hf
        refine zr_aload_n C0 dX6_entryKind_71 rfl 0 rfl ?_
        obtain ⟨x19, e20, hf⟩ := zbind hf
        refine zr_get C0 fl_X6_322_X6 dX6_entryKind_72 (zgL e20) ?_
        refine zr_bipush C0 (v := 112) dX6_entryKind_75 (by decide) ?_
        refine zr_bipush C0 (v := 97) dX6_entryKind_77 (by decide) ?_
        refine zr_bipush C0 (v := 121) dX6_entryKind_79 (by decide) ?_
        refine zr_iconst C0 (v := 0) dX6_entryKind_81 (by decide) ?_
        refine zr_iconst C0 (v := 0) dX6_entryKind_82 (by decide) ?_
        obtain ⟨x23, h21, e22, hf⟩ := zbind2 hf
        refine zr_callS_r C0 cv_X6_278 (m_X6_pack C0.2.2.2.2.2.2.1 e22) (by decide) (by decide) rfl rfl (Nat.le_of_ble_eq_true rfl) dX6_entryKind_83 rfl ?_
        refine zr_lcmp C0 dX6_entryKind_86 ?_
        refine zr_if_ne C0 (tgt := 92) dX6_entryKind_87 (by decide) (fun c24 => ?_) (fun c24 => ?_)
        · have hf := zif_f (zl_ne.mp c24) hf
          refine zr_aload_n C0 dX6_entryKind_92 rfl 0 rfl ?_
          obtain ⟨x25, e26, hf⟩ := zbind hf
          refine zr_get C0 fl_X6_322_X6 dX6_entryKind_93 (zgL e26) ?_
          refine zr_bipush C0 (v := 103) dX6_entryKind_96 (by decide) ?_
          refine zr_bipush C0 (v := 114) dX6_entryKind_98 (by decide) ?_
          refine zr_bipush C0 (v := 97) dX6_entryKind_100 (by decide) ?_
          refine zr_bipush C0 (v := 110) dX6_entryKind_102 (by decide) ?_
          refine zr_bipush C0 (v := 116) dX6_entryKind_104 (by decide) ?_
          obtain ⟨x29, h27, e28, hf⟩ := zbind2 hf
          refine zr_callS_r C0 cv_X6_278 (m_X6_pack C0.2.2.2.2.2.2.1 e28) (by decide) (by decide) rfl rfl (Nat.le_of_ble_eq_true rfl) dX6_entryKind_106 rfl ?_
          refine zr_lcmp C0 dX6_entryKind_109 ?_
          refine zr_if_ne C0 (tgt := 115) dX6_entryKind_110 (by decide) (fun c30 => ?_) (fun c30 => ?_)
          · have hf := zif_f (zl_ne.mp c30) hf
            refine zr_aload_n C0 dX6_entryKind_115 rfl 0 rfl ?_
            obtain ⟨x31, e32, hf⟩ := zbind hf
            refine zr_get C0 fl_X6_322_X6 dX6_entryKind_116 (zgL e32) ?_
            refine zr_bipush C0 (v := 99) dX6_entryKind_119 (by decide) ?_
            refine zr_bipush C0 (v := 97) dX6_entryKind_121 (by decide) ?_
            refine zr_bipush C0 (v := 109) dX6_entryKind_123 (by decide) ?_
            refine zr_bipush C0 (v := 112) dX6_entryKind_125 (by decide) ?_
            refine zr_bipush C0 (v := 97) dX6_entryKind_127 (by decide) ?_
            obtain ⟨x35, h33, e34, hf⟩ := zbind2 hf
            refine zr_callS_r C0 cv_X6_278 (m_X6_pack C0.2.2.2.2.2.2.1 e34) (by decide) (by decide) rfl rfl (Nat.le_of_ble_eq_true rfl) dX6_entryKind_129 rfl ?_
            refine zr_ldc2 C0 (v := 32768) q3051 dX6_entryKind_132 ?_
            refine zr_lmul C0 dX6_entryKind_135 ?_
            refine zr_bipush C0 (v := 105) dX6_entryKind_136 (by decide) ?_
            refine zr_bipush C0 (v := 103) dX6_entryKind_138 (by decide) ?_
            refine zr_bipush C0 (v := 110) dX6_entryKind_140 (by decide) ?_
            refine zr_iconst C0 (v := 0) dX6_entryKind_142 (by decide) ?_
            refine zr_iconst C0 (v := 0) dX6_entryKind_143 (by decide) ?_
            obtain ⟨x38, h36, e37, hf⟩ := zbind2 hf
            refine zr_callS_r C0 cv_X6_278 (m_X6_pack C0.2.2.2.2.2.2.1 e37) (by decide) (by decide) rfl rfl (Nat.le_of_ble_eq_true rfl) dX6_entryKind_144 rfl ?_
            refine zr_ladd C0 dX6_entryKind_147 ?_
            refine zr_lcmp C0 dX6_entryKind_148 ?_
            refine zr_if_ne C0 (tgt := 154) dX6_entryKind_149 (by decide) (fun c39 => ?_) (fun c39 => ?_)
            · have hf := zif_f (zl_ne.mp c39) hf
              refine zr_aload_n C0 dX6_entryKind_154 rfl 0 rfl ?_
              obtain ⟨x40, e41, hf⟩ := zbind hf
              refine zr_get C0 fl_X6_322_X6 dX6_entryKind_155 (zgL e41) ?_
              refine zr_bipush C0 (v := 118) dX6_entryKind_158 (by decide) ?_
              refine zr_bipush C0 (v := 111) dX6_entryKind_160 (by decide) ?_
              refine zr_bipush C0 (v := 116) dX6_entryKind_162 (by decide) ?_
              refine zr_bipush C0 (v := 101) dX6_entryKind_164 (by decide) ?_
              refine zr_iconst C0 (v := 0) dX6_entryKind_166 (by decide) ?_
              obtain ⟨x44, h42, e43, hf⟩ := zbind2 hf
              refine zr_callS_r C0 cv_X6_278 (m_X6_pack C0.2.2.2.2.2.2.1 e43) (by decide) (by decide) rfl rfl (Nat.le_of_ble_eq_true rfl) dX6_entryKind_167 rfl ?_
              refine zr_lcmp C0 dX6_entryKind_170 ?_
              refine zr_if_ne C0 (tgt := 176) dX6_entryKind_171 (by decide) (fun c45 => ?_) (fun c45 => ?_)
              · have hf := zif_f (zl_ne.mp c45) hf
                refine zr_aload_n C0 dX6_entryKind_176 rfl 0 rfl ?_
                obtain ⟨x46, e47, hf⟩ := zbind hf
                refine zr_get C0 fl_X6_322_X6 dX6_entryKind_177 (zgL e47) ?_
                refine zr_bipush C0 (v := 99) dX6_entryKind_180 (by decide) ?_
                refine zr_bipush C0 (v := 108) dX6_entryKind_182 (by decide) ?_
                refine zr_bipush C0 (v := 111) dX6_entryKind_184 (by decide) ?_
                refine zr_bipush C0 (v := 115) dX6_entryKind_186 (by decide) ?_
                refine zr_bipush C0 (v := 101) dX6_entryKind_188 (by decide) ?_
                obtain ⟨x50, h48, e49, hf⟩ := zbind2 hf
                refine zr_callS_r C0 cv_X6_278 (m_X6_pack C0.2.2.2.2.2.2.1 e49) (by decide) (by decide) rfl rfl (Nat.le_of_ble_eq_true rfl) dX6_entryKind_190 rfl ?_
                refine zr_lcmp C0 dX6_entryKind_193 ?_
                refine zr_if_ne C0 (tgt := 202) dX6_entryKind_194 (by decide) (fun c51 => ?_) (fun c51 => ?_)
                · have hf := zif_f (zl_ne.mp c51) hf
                  refine zr_iconst C0 (v := -1) dX6_entryKind_202 (by decide) ?_
                  refine zr_sub [] rfl ?_
                  exact w_X6_entryKind_b203 C0 hf
                · have hf := zif_t (zl_nen.mp c51) hf
                  refine zr_bipush C0 (v := 6) dX6_entryKind_197 (by decide) ?_
                  refine zr_goto C0 (tgt := 203) dX6_entryKind_199 (by decide) ?_
                  refine zr_sub [] rfl ?_
                  exact w_X6_entryKind_b203 C0 hf
              · have hf := zif_t (zl_nen.mp c45) hf
                refine zr_iconst C0 (v := 5) dX6_entryKind_174 (by decide) ?_
                refine zretW hf ?_
                exact zr_iret C0 (ty := .int) rfl rfl dX6_entryKind_175 rfl
            · have hf := zif_t (zl_nen.mp c39) hf
              refine zr_iconst C0 (v := 4) dX6_entryKind_152 (by decide) ?_
              refine zretW hf ?_
              exact zr_iret C0 (ty := .int) rfl rfl dX6_entryKind_153 rfl
          · have hf := zif_t (zl_nen.mp c30) hf
            refine zr_iconst C0 (v := 3) dX6_entryKind_113 (by decide) ?_
            refine zretW hf ?_
            exact zr_iret C0 (ty := .int) rfl rfl dX6_entryKind_114 rfl
        · have hf := zif_t (zl_nen.mp c24) hf
          refine zr_iconst C0 (v := 2) dX6_entryKind_90 (by decide) ?_
          refine zretW hf ?_
          exact zr_iret C0 (ty := .int) rfl rfl dX6_entryKind_91 rfl
      · have hf := zif_t (zl_nen.mp c18) hf
        refine zr_iconst C0 (v := 1) dX6_entryKind_69 (by decide) ?_
        refine zretW hf ?_
        exact zr_iret C0 (ty := .int) rfl rfl dX6_entryKind_70 rfl
    · have hf := zif_t (zl_nen.mp c9) hf
      refine zr_iconst C0 (v := 0) dX6_entryKind_31 (by decide) ?_
      refine zretW hf ?_
      exact zr_iret C0 (ty := .int) rfl rfl dX6_entryKind_32 rfl
  · have hf := zif_f c3 hf
    refine zr_iconst C0 (v := -1) dX6_entryKind_8 (by decide) ?_
    refine zretW hf ?_
    exact zr_iret C0 (ty := .int) rfl rfl dX6_entryKind_9 rfl
def f_X6_entryKind (E : zE) (p0 : Nat) (h : zH) : Option (Int32 × zH) := f_X6_entryKind_b0 E p0 h
theorem m_X6_entryKind {l : Launch} (hst : l.stackTraces = false) {D : zD} {B0 : Nat} {E : zE} {p0 : Nat} {h h' : zH} {r : Int32} (hf : f_X6_entryKind E p0 h = some (r, h')) : zMet l yX6_entryKind (ws_ yX6_entryKind cX6_entryKind 1 (Option.some Jvm.ClassFile.FieldType.int)) 2 86 D B0 E [.ref p0] h (zoI r) h' := by
  unfold f_X6_entryKind at hf
  refine zMet_of hst (by decide +kernel) rfl rfl (Nat.le_of_ble_eq_true rfl) (fun p e R s m below meth c C0 hno => ?_)
  show zW _ _ _ _ _ _ _ _ _ _ _ _ _ _ _ _ [(0, .ref p0)] []
  exact w_X6_entryKind_b0 C0 hf
def f_X6_readPart_b0 (E : zE) (p0 : Nat) (p1 : Int32) (p2 : Int32) (p3 : Int32) (h : zH) : Option (Int32 × zH) :=
  (cko h p0 1).bind fun _ =>
  bnd2 (f_X6_readNumber E p0 p2 p3 h) fun x4 h2 =>
  if x4 = 0 then (
    some ((0 : Int32), h2)
  ) else (
    (gR h2 p0 1 18).bind fun x6 =>
    (gI h2 p0 1 15).bind fun x8 =>
    (sI h2 x6 0 p1 x8).bind fun h10 =>
    some ((1 : Int32), h10)
  )
theorem w_X6_readPart_b0 (C0 : zCx p l e R s m args below meth c D B0 4 "FranchiseLedgerModel" cX6_readPart E 5 148 (Option.some Jvm.ClassFile.FieldType.boolean) "readPart") {r : Int32} {h' : zH} {p0 : Nat} {p1 : Int32} {p2 : Int32} {p3 : Int32} {h : zH} (hf : f_X6_readPart_b0 E p0 p1 p2 p3 h = some (r, h')) : zW p l e R s m args below meth c D B0 4 (zEnd D B0 R below args s (zoI r) h') h 0 [(0, .ref p0), (1, .int p1), (2, .int p2), (3, .int p3)] [] := by
  unfold f_X6_readPart_b0 at hf
  refine zr_aload_n C0 dX6_readPart_0 rfl 0 rfl ?_
  refine zr_iload_n C0 dX6_readPart_1 rfl 2 rfl ?_
  refine zr_iload_n C0 dX6_readPart_2 rfl 3 rfl ?_
  obtain ⟨_, e1, hf⟩ := zbind hf
  obtain ⟨x4, h2, e3, hf⟩ := zbind2 hf
  refine zr_callV_r C0 cv_X6_348_X6 rfl (zcko e1) (m_X6_readNumber C0.2.2.2.2.2.2.1 e3) (by decide) (by decide) rfl rfl (Nat.le_of_ble_eq_true rfl) dX6_readPart_3 rfl ?_
  refine zr_if_ne C0 (tgt := 11) dX6_readPart_6 (by decide) (fun c5 => ?_) (fun c5 => ?_)
  · have hf := zif_f c5 hf
    refine zr_aload_n C0 dX6_readPart_11 rfl 0 rfl ?_
    obtain ⟨x6, e7, hf⟩ := zbind hf
    refine zr_get C0 fl_X6_41_X6 dX6_readPart_12 (zgR e7) ?_
    refine zr_iload_n C0 dX6_readPart_15 rfl 1 rfl ?_
    refine zr_aload_n C0 dX6_readPart_16 rfl 0 rfl ?_
    obtain ⟨x8, e9, hf⟩ := zbind hf
    refine zr_get C0 fl_X6_342_X6 dX6_readPart_17 (zgI e9) ?_
    obtain ⟨h10, e11, hf⟩ := zbind hf
    refine zr_iast C0 dX6_readPart_20 e11 ?_
    refine zr_iconst C0 (v := 1) dX6_readPart_21 (by decide) ?_
    refine zretW hf ?_
    exact zr_iret C0 (ty := .boolean) rfl (by decide) dX6_readPart_22 rfl
  · have hf := zif_t c5 hf
    refine zr_iconst C0 (v := 0) dX6_readPart_9 (by decide) ?_
    refine zretW hf ?_
    exact zr_iret C0 (ty := .boolean) rfl (by decide) dX6_readPart_10 rfl
def f_X6_readPart (E : zE) (p0 : Nat) (p1 : Int32) (p2 : Int32) (p3 : Int32) (h : zH) : Option (Int32 × zH) := f_X6_readPart_b0 E p0 p1 p2 p3 h
theorem m_X6_readPart {l : Launch} (hst : l.stackTraces = false) {D : zD} {B0 : Nat} {E : zE} {p0 : Nat} {p1 : Int32} {p2 : Int32} {p3 : Int32} {h h' : zH} {r : Int32} (hf : f_X6_readPart E p0 p1 p2 p3 h = some (r, h')) : zMet l yX6_readPart (ws_ yX6_readPart cX6_readPart 4 (Option.some Jvm.ClassFile.FieldType.boolean)) 5 148 D B0 E [.ref p0, .int p1, .int p2, .int p3] h (zoI r) h' := by
  unfold f_X6_readPart at hf
  refine zMet_of hst (by decide +kernel) rfl rfl (Nat.le_of_ble_eq_true rfl) (fun p e R s m below meth c C0 hno => ?_)
  show zW _ _ _ _ _ _ _ _ _ _ _ _ _ _ _ _ [(0, .ref p0), (1, .int p1), (2, .int p2), (3, .int p3)] []
  exact w_X6_readPart_b0 C0 hf
def f_X6_readWho_b26 (E : zE) (s0 : Int32) (h : zH) : Option (Int32 × zH) :=
  (zgd .boolean s0).bind fun _ =>
  some (s0, h)
theorem w_X6_readWho_b26 (C0 : zCx p l e R s m args below meth c D B0 2 "FranchiseLedgerModel" cX6_readWho E 5 149 (Option.some Jvm.ClassFile.FieldType.boolean) "readWho") {r : Int32} {h' : zH} {s0 : Int32} {h : zH} (hf : f_X6_readWho_b26 E s0 h = some (r, h')) : zW p l e R s m args below meth c D B0 2 (zEnd D B0 R below args s (zoI r) h') h 26 [] [.int s0] := by
  unfold f_X6_readWho_b26 at hf
  obtain ⟨_, e1, hf⟩ := zbind hf
  refine zretW hf ?_
  exact zr_iret C0 (ty := .boolean) rfl (zgd_n e1) dX6_readWho_26 rfl
def f_X6_readWho_b0 (E : zE) (p0 : Nat) (p1 : Int32) (h : zH) : Option (Int32 × zH) :=
  (gR h p0 1 18).bind fun x1 =>
  (cko h p0 1).bind fun _ =>
  bnd2 (f_X6_readName E p0 (0 : Int32) h) fun x6 h4 =>
  (sI h4 x1 0 p1 x6).bind fun h7 =>
  (gR h7 p0 1 18).bind fun x9 =>
  (dI h7 x9 0 p1).bind fun x11 =>
  if x11 = (-1 : Int32) then (
    f_X6_readWho_b26 E (0 : Int32) h7
  ) else (
    f_X6_readWho_b26 E (1 : Int32) h7
  )
theorem w_X6_readWho_b0 (C0 : zCx p l e R s m args below meth c D B0 2 "FranchiseLedgerModel" cX6_readWho E 5 149 (Option.some Jvm.ClassFile.FieldType.boolean) "readWho") {r : Int32} {h' : zH} {p0 : Nat} {p1 : Int32} {h : zH} (hf : f_X6_readWho_b0 E p0 p1 h = some (r, h')) : zW p l e R s m args below meth c D B0 2 (zEnd D B0 R below args s (zoI r) h') h 0 [(0, .ref p0), (1, .int p1)] [] := by
  unfold f_X6_readWho_b0 at hf
  refine zr_aload_n C0 dX6_readWho_0 rfl 0 rfl ?_
  obtain ⟨x1, e2, hf⟩ := zbind hf
  refine zr_get C0 fl_X6_41_X6 dX6_readWho_1 (zgR e2) ?_
  refine zr_iload_n C0 dX6_readWho_4 rfl 1 rfl ?_
  refine zr_aload_n C0 dX6_readWho_5 rfl 0 rfl ?_
  refine zr_iconst C0 (v := 0) dX6_readWho_6 (by decide) ?_
  obtain ⟨_, e3, hf⟩ := zbind hf
  obtain ⟨x6, h4, e5, hf⟩ := zbind2 hf
  refine zr_callV_r C0 cv_X6_374_X6 rfl (zcko e3) (m_X6_readName C0.2.2.2.2.2.2.1 e5) (by decide) (by decide) rfl rfl (Nat.le_of_ble_eq_true rfl) dX6_readWho_7 rfl ?_
  obtain ⟨h7, e8, hf⟩ := zbind hf
  refine zr_iast C0 dX6_readWho_10 e8 ?_
  refine zr_aload_n C0 dX6_readWho_11 rfl 0 rfl ?_
  obtain ⟨x9, e10, hf⟩ := zbind hf
  refine zr_get C0 fl_X6_41_X6 dX6_readWho_12 (zgR e10) ?_
  refine zr_iload_n C0 dX6_readWho_15 rfl 1 rfl ?_
  obtain ⟨x11, e12, hf⟩ := zbind hf
  refine zr_iald C0 dX6_readWho_16 e12 ?_
  refine zr_iconst C0 (v := -1) dX6_readWho_17 (by decide) ?_
  refine zr_icmp_eq C0 (tgt := 25) dX6_readWho_18 (by decide) (fun c13 => ?_) (fun c13 => ?_)
  · have hf := zif_t c13 hf
    refine zr_iconst C0 (v := 0) dX6_readWho_25 (by decide) ?_
    refine zr_sub [] rfl ?_
    exact w_X6_readWho_b26 C0 hf
  · have hf := zif_f c13 hf
    refine zr_iconst C0 (v := 1) dX6_readWho_21 (by decide) ?_
    refine zr_goto C0 (tgt := 26) dX6_readWho_22 (by decide) ?_
    refine zr_sub [] rfl ?_
    exact w_X6_readWho_b26 C0 hf
def f_X6_readWho (E : zE) (p0 : Nat) (p1 : Int32) (h : zH) : Option (Int32 × zH) := f_X6_readWho_b0 E p0 p1 h
theorem m_X6_readWho {l : Launch} (hst : l.stackTraces = false) {D : zD} {B0 : Nat} {E : zE} {p0 : Nat} {p1 : Int32} {h h' : zH} {r : Int32} (hf : f_X6_readWho E p0 p1 h = some (r, h')) : zMet l yX6_readWho (ws_ yX6_readWho cX6_readWho 2 (Option.some Jvm.ClassFile.FieldType.boolean)) 5 149 D B0 E [.ref p0, .int p1] h (zoI r) h' := by
  unfold f_X6_readWho at hf
  refine zMet_of hst (by decide +kernel) rfl rfl (Nat.le_of_ble_eq_true rfl) (fun p e R s m below meth c C0 hno => ?_)
  show zW _ _ _ _ _ _ _ _ _ _ _ _ _ _ _ _ [(0, .ref p0), (1, .int p1)] []
  exact w_X6_readWho_b0 C0 hf
def f_X6_readVote_b83 (E : zE) (p0 : Nat) (s0 : Nat) (s1 : Int32) (s2 : Int32) (h : zH) : Option (Int32 × zH) :=
  (sI h s0 0 s1 s2).bind fun h1 =>
  (cko h1 p0 1).bind fun _ =>
  bnd2 (f_X6_advance E p0 h1) fun x6 h4 =>
  some ((1 : Int32), h4)
theorem w_X6_readVote_b83 (C0 : zCx p l e R s m args below meth c D B0 3 "FranchiseLedgerModel" cX6_readVote E 4 126 (Option.some Jvm.ClassFile.FieldType.boolean) "readVote") {r : Int32} {h' : zH} {p0 : Nat} {s0 : Nat} {s1 : Int32} {s2 : Int32} {h : zH} (hf : f_X6_readVote_b83 E p0 s0 s1 s2 h = some (r, h')) : zW p l e R s m args below meth c D B0 3 (zEnd D B0 R below args s (zoI r) h') h 83 [(0, .ref p0)] [.int s2, .int s1, .ref s0] := by
  unfold f_X6_readVote_b83 at hf
  obtain ⟨h1, e2, hf⟩ := zbind hf
  refine zr_iast C0 dX6_readVote_83 e2 ?_
  refine zr_aload_n C0 dX6_readVote_84 rfl 0 rfl ?_
  obtain ⟨_, e3, hf⟩ := zbind hf
  obtain ⟨x6, h4, e5, hf⟩ := zbind2 hf
  refine zr_callV_r C0 cv_X6_345_X6 rfl (zcko e3) (m_X6_advance C0.2.2.2.2.2.2.1 e5) (by decide) (by decide) rfl rfl (Nat.le_of_ble_eq_true rfl) dX6_readVote_85 rfl ?_
  refine zr_iconst C0 (v := 1) dX6_readVote_88 (by decide) ?_
  refine zretW hf ?_
  exact zr_iret C0 (ty := .boolean) rfl (by decide) dX6_readVote_89 rfl
def f_X6_readVote_b69 (E : zE) (p0 : Nat) (p1 : Int32) (p2 : Int32) (h : zH) : Option (Int32 × zH) :=
  (gR h p0 1 18).bind fun x1 =>
  if p2 = 0 then (
    f_X6_readVote_b83 E p0 x1 p1 (0 : Int32) h
  ) else (
    f_X6_readVote_b83 E p0 x1 p1 (1 : Int32) h
  )
theorem w_X6_readVote_b69 (C0 : zCx p l e R s m args below meth c D B0 3 "FranchiseLedgerModel" cX6_readVote E 4 126 (Option.some Jvm.ClassFile.FieldType.boolean) "readVote") {r : Int32} {h' : zH} {p0 : Nat} {p1 : Int32} {p2 : Int32} {h : zH} (hf : f_X6_readVote_b69 E p0 p1 p2 h = some (r, h')) : zW p l e R s m args below meth c D B0 3 (zEnd D B0 R below args s (zoI r) h') h 69 [(0, .ref p0), (1, .int p1), (2, .int p2)] [] := by
  unfold f_X6_readVote_b69 at hf
  refine zr_aload_n C0 dX6_readVote_69 rfl 0 rfl ?_
  obtain ⟨x1, e2, hf⟩ := zbind hf
  refine zr_get C0 fl_X6_41_X6 dX6_readVote_70 (zgR e2) ?_
  refine zr_iload_n C0 dX6_readVote_73 rfl 1 rfl ?_
  refine zr_iload_n C0 dX6_readVote_74 rfl 2 rfl ?_
  refine zr_if_eq C0 (tgt := 82) dX6_readVote_75 (by decide) (fun c3 => ?_) (fun c3 => ?_)
  · have hf := zif_t c3 hf
    refine zr_iconst C0 (v := 0) dX6_readVote_82 (by decide) ?_
    refine zr_sub [0] rfl ?_
    exact w_X6_readVote_b83 C0 hf
  · have hf := zif_f c3 hf
    refine zr_iconst C0 (v := 1) dX6_readVote_78 (by decide) ?_
    refine zr_goto C0 (tgt := 83) dX6_readVote_79 (by decide) ?_
    refine zr_sub [0] rfl ?_
    exact w_X6_readVote_b83 C0 hf
def f_X6_readVote_b63 (E : zE) (p0 : Nat) (h : zH) : Option (Int32 × zH) :=
  (cko h p0 1).bind fun _ =>
  bnd2 (f_X6_fail E p0 (1 : Int32) h) fun x4 h2 =>
  (zgd .boolean x4).bind fun _ =>
  some (x4, h2)
theorem w_X6_readVote_b63 (C0 : zCx p l e R s m args below meth c D B0 3 "FranchiseLedgerModel" cX6_readVote E 4 126 (Option.some Jvm.ClassFile.FieldType.boolean) "readVote") {r : Int32} {h' : zH} {p0 : Nat} {h : zH} (hf : f_X6_readVote_b63 E p0 h = some (r, h')) : zW p l e R s m args below meth c D B0 3 (zEnd D B0 R below args s (zoI r) h') h 63 [(0, .ref p0)] [] := by
  unfold f_X6_readVote_b63 at hf
  refine zr_aload_n C0 dX6_readVote_63 rfl 0 rfl ?_
  refine zr_iconst C0 (v := 1) dX6_readVote_64 (by decide) ?_
  obtain ⟨_, e1, hf⟩ := zbind hf
  obtain ⟨x4, h2, e3, hf⟩ := zbind2 hf
  refine zr_callV_r C0 cv_X6_339_X6 rfl (zcko e1) (m_X6_fail C0.2.2.2.2.2.2.1 e3) (by decide) (by decide) rfl rfl (Nat.le_of_ble_eq_true rfl) dX6_readVote_65 rfl ?_
  obtain ⟨_, e5, hf⟩ := zbind hf
  refine zretW hf ?_
  exact zr_iret C0 (ty := .boolean) rfl (zgd_n e5) dX6_readVote_68 rfl
def f_X6_readVote_b32 (E : zE) (p0 : Nat) (p1 : Int32) (s0 : Int32) (h : zH) : Option (Int32 × zH) :=
  if s0 = 0 then (
    (gI h p0 1 13).bind fun x2 =>
    if x2 = (1 : Int32) then (
      (gL h p0 1 16).bind fun x5 =>
      bnd2 (f_X6_pack E (110 : Int32) (111 : Int32) (0 : Int32) (0 : Int32) (0 : Int32) h) fun x9 h7 =>
      if x5 = x9 then (
        f_X6_readVote_b69 E p0 p1 s0 h7
      ) else (
        f_X6_readVote_b63 E p0 h7
      )
    ) else (
      f_X6_readVote_b63 E p0 h
    )
  ) else (
    f_X6_readVote_b69 E p0 p1 s0 h
  )
theorem w_X6_readVote_b32 (C0 : zCx p l e R s m args below meth c D B0 3 "FranchiseLedgerModel" cX6_readVote E 4 126 (Option.some Jvm.ClassFile.FieldType.boolean) "readVote") {r : Int32} {h' : zH} {p0 : Nat} {p1 : Int32} {s0 : Int32} {h : zH} (hf : f_X6_readVote_b32 E p0 p1 s0 h = some (r, h')) : zW p l e R s m args below meth c D B0 3 (zEnd D B0 R below args s (zoI r) h') h 32 [(0, .ref p0), (1, .int p1)] [.int s0] := by
  unfold f_X6_readVote_b32 at hf
  refine zr_istore_n (i := 2) (lv' := [(2, .int s0), (0, .ref p0), (1, .int p1)]) C0 dX6_readVote_32 rfl (by decide) (by first | rfl | simp [zst1, zst2, zcat_rf]) ?_
  refine zr_iload_n C0 dX6_readVote_33 rfl 0 rfl ?_
  refine zr_if_ne C0 (tgt := 69) dX6_readVote_34 (by decide) (fun c1 => ?_) (fun c1 => ?_)
  · have hf := zif_f c1 hf
    refine zr_sub [1, 2, 0] rfl ?_
    exact w_X6_readVote_b69 C0 hf
  · have hf := zif_t c1 hf
    refine zr_aload_n C0 dX6_readVote_37 rfl 1 rfl ?_
    obtain ⟨x2, e3, hf⟩ := zbind hf
    refine zr_get C0 fl_X6_332_X6 dX6_readVote_38 (zgI e3) ?_
    refine zr_iconst C0 (v := 1) dX6_readVote_41 (by decide) ?_
    refine zr_icmp_ne C0 (tgt := 63) dX6_readVote_42 (by decide) (fun c4 => ?_) (fun c4 => ?_)
    · have hf := zif_f c4 hf
      refine zr_sub [1] rfl ?_
      exact w_X6_readVote_b63 C0 hf
    · have hf := zif_t c4 hf
      refine zr_aload_n C0 dX6_readVote_45 rfl 1 rfl ?_
      obtain ⟨x5, e6, hf⟩ := zbind hf
      refine zr_get C0 fl_X6_322_X6 dX6_readVote_46 (zgL e6) ?_
      refine zr_bipush C0 (v := 110) dX6_readVote_49 (by decide) ?_
      refine zr_bipush C0 (v := 111) dX6_readVote_51 (by decide) ?_
      refine zr_iconst C0 (v := 0) dX6_readVote_53 (by decide) ?_
      refine zr_iconst C0 (v := 0) dX6_readVote_54 (by decide) ?_
      refine zr_iconst C0 (v := 0) dX6_readVote_55 (by decide) ?_
      obtain ⟨x9, h7, e8, hf⟩ := zbind2 hf
      refine zr_callS_r C0 cv_X6_278 (m_X6_pack C0.2.2.2.2.2.2.1 e8) (by decide) (by decide) rfl rfl (Nat.le_of_ble_eq_true rfl) dX6_readVote_56 rfl ?_
      refine zr_lcmp C0 dX6_readVote_59 ?_
      refine zr_if_eq C0 (tgt := 69) dX6_readVote_60 (by decide) (fun c10 => ?_) (fun c10 => ?_)
      · have hf := zif_t (zl_eq.mp c10) hf
        refine zr_sub [1, 2, 0] rfl ?_
        exact w_X6_readVote_b69 C0 hf
      · have hf := zif_f (zl_eqn.mp c10) hf
        refine zr_sub [1] rfl ?_
        exact w_X6_readVote_b63 C0 hf
def f_X6_readVote_b31 (E : zE) (p0 : Nat) (p1 : Int32) (h : zH) : Option (Int32 × zH) :=
  f_X6_readVote_b32 E p0 p1 (0 : Int32) h
theorem w_X6_readVote_b31 (C0 : zCx p l e R s m args below meth c D B0 3 "FranchiseLedgerModel" cX6_readVote E 4 126 (Option.some Jvm.ClassFile.FieldType.boolean) "readVote") {r : Int32} {h' : zH} {p0 : Nat} {p1 : Int32} {h : zH} (hf : f_X6_readVote_b31 E p0 p1 h = some (r, h')) : zW p l e R s m args below meth c D B0 3 (zEnd D B0 R below args s (zoI r) h') h 31 [(0, .ref p0), (1, .int p1)] [] := by
  unfold f_X6_readVote_b31 at hf
  refine zr_iconst C0 (v := 0) dX6_readVote_31 (by decide) ?_
  exact w_X6_readVote_b32 C0 hf
def f_X6_readVote_b0 (E : zE) (p0 : Nat) (p1 : Int32) (h : zH) : Option (Int32 × zH) :=
  (gI h p0 1 13).bind fun x1 =>
  if x1 = (1 : Int32) then (
    (gL h p0 1 16).bind fun x4 =>
    bnd2 (f_X6_pack E (121 : Int32) (101 : Int32) (115 : Int32) (0 : Int32) (0 : Int32) h) fun x8 h6 =>
    if x4 = x8 then (
      f_X6_readVote_b32 E p0 p1 (1 : Int32) h6
    ) else (
      f_X6_readVote_b31 E p0 p1 h6
    )
  ) else (
    f_X6_readVote_b31 E p0 p1 h
  )
theorem w_X6_readVote_b0 (C0 : zCx p l e R s m args below meth c D B0 3 "FranchiseLedgerModel" cX6_readVote E 4 126 (Option.some Jvm.ClassFile.FieldType.boolean) "readVote") {r : Int32} {h' : zH} {p0 : Nat} {p1 : Int32} {h : zH} (hf : f_X6_readVote_b0 E p0 p1 h = some (r, h')) : zW p l e R s m args below meth c D B0 3 (zEnd D B0 R below args s (zoI r) h') h 0 [(0, .ref p0), (1, .int p1)] [] := by
  unfold f_X6_readVote_b0 at hf
  refine zr_aload_n C0 dX6_readVote_0 rfl 0 rfl ?_
  obtain ⟨x1, e2, hf⟩ := zbind hf
  refine zr_get C0 fl_X6_332_X6 dX6_readVote_1 (zgI e2) ?_
  refine zr_iconst C0 (v := 1) dX6_readVote_4 (by decide) ?_
  refine zr_icmp_ne C0 (tgt := 31) dX6_readVote_5 (by decide) (fun c3 => ?_) (fun c3 => ?_)
  · have hf := zif_f c3 hf
    exact w_X6_readVote_b31 C0 hf
  · have hf := zif_t c3 hf
    refine zr_aload_n C0 dX6_readVote_8 rfl 0 rfl ?_
    obtain ⟨x4, e5, hf⟩ := zbind hf
    refine zr_get C0 fl_X6_322_X6 dX6_readVote_9 (zgL e5) ?_
    refine zr_bipush C0 (v := 121) dX6_readVote_12 (by decide) ?_
    refine zr_bipush C0 (v := 101) dX6_readVote_14 (by decide) ?_
    refine zr_bipush C0 (v := 115) dX6_readVote_16 (by decide) ?_
    refine zr_iconst C0 (v := 0) dX6_readVote_18 (by decide) ?_
    refine zr_iconst C0 (v := 0) dX6_readVote_19 (by decide) ?_
    obtain ⟨x8, h6, e7, hf⟩ := zbind2 hf
    refine zr_callS_r C0 cv_X6_278 (m_X6_pack C0.2.2.2.2.2.2.1 e7) (by decide) (by decide) rfl rfl (Nat.le_of_ble_eq_true rfl) dX6_readVote_20 rfl ?_
    refine zr_lcmp C0 dX6_readVote_23 ?_
    refine zr_if_ne C0 (tgt := 31) dX6_readVote_24 (by decide) (fun c9 => ?_) (fun c9 => ?_)
    · have hf := zif_f (zl_ne.mp c9) hf
      exact w_X6_readVote_b31 C0 hf
    · have hf := zif_t (zl_nen.mp c9) hf
      refine zr_iconst C0 (v := 1) dX6_readVote_27 (by decide) ?_
      refine zr_goto C0 (tgt := 32) dX6_readVote_28 (by decide) ?_
      exact w_X6_readVote_b32 C0 hf
def f_X6_readVote (E : zE) (p0 : Nat) (p1 : Int32) (h : zH) : Option (Int32 × zH) := f_X6_readVote_b0 E p0 p1 h
theorem m_X6_readVote {l : Launch} (hst : l.stackTraces = false) {D : zD} {B0 : Nat} {E : zE} {p0 : Nat} {p1 : Int32} {h h' : zH} {r : Int32} (hf : f_X6_readVote E p0 p1 h = some (r, h')) : zMet l yX6_readVote (ws_ yX6_readVote cX6_readVote 3 (Option.some Jvm.ClassFile.FieldType.boolean)) 4 126 D B0 E [.ref p0, .int p1] h (zoI r) h' := by
  unfold f_X6_readVote at hf
  refine zMet_of hst (by decide +kernel) rfl rfl (Nat.le_of_ble_eq_true rfl) (fun p e R s m below meth c C0 hno => ?_)
  show zW _ _ _ _ _ _ _ _ _ _ _ _ _ _ _ _ [(0, .ref p0), (1, .int p1)] []
  exact w_X6_readVote_b0 C0 hf
def f_X6_readParts_b72 (E : zE) (s0 : Int32) (h : zH) : Option (Int32 × zH) :=
  (zgd .boolean s0).bind fun _ =>
  some (s0, h)
theorem w_X6_readParts_b72 (C0 : zCx p l e R s m args below meth c D B0 3 "FranchiseLedgerModel" cX6_readParts E 6 171 (Option.some Jvm.ClassFile.FieldType.boolean) "readParts") {r : Int32} {h' : zH} {s0 : Int32} {h : zH} (hf : f_X6_readParts_b72 E s0 h = some (r, h')) : zW p l e R s m args below meth c D B0 3 (zEnd D B0 R below args s (zoI r) h') h 72 [] [.int s0] := by
  unfold f_X6_readParts_b72 at hf
  obtain ⟨_, e1, hf⟩ := zbind hf
  refine zretW hf ?_
  exact zr_iret C0 (ty := .boolean) rfl (zgd_n e1) dX6_readParts_72 rfl
def f_X6_readParts_b71 (E : zE) (h : zH) : Option (Int32 × zH) :=
  f_X6_readParts_b72 E (0 : Int32) h
theorem w_X6_readParts_b71 (C0 : zCx p l e R s m args below meth c D B0 3 "FranchiseLedgerModel" cX6_readParts E 6 171 (Option.some Jvm.ClassFile.FieldType.boolean) "readParts") {r : Int32} {h' : zH} {h : zH} (hf : f_X6_readParts_b71 E  h = some (r, h')) : zW p l e R s m args below meth c D B0 3 (zEnd D B0 R below args s (zoI r) h') h 71 [] [] := by
  unfold f_X6_readParts_b71 at hf
  refine zr_iconst C0 (v := 0) dX6_readParts_71 (by decide) ?_
  exact w_X6_readParts_b72 C0 hf
def f_X6_readParts_b131 (E : zE) (s0 : Int32) (h : zH) : Option (Int32 × zH) :=
  (zgd .boolean s0).bind fun _ =>
  some (s0, h)
theorem w_X6_readParts_b131 (C0 : zCx p l e R s m args below meth c D B0 3 "FranchiseLedgerModel" cX6_readParts E 6 171 (Option.some Jvm.ClassFile.FieldType.boolean) "readParts") {r : Int32} {h' : zH} {s0 : Int32} {h : zH} (hf : f_X6_readParts_b131 E s0 h = some (r, h')) : zW p l e R s m args below meth c D B0 3 (zEnd D B0 R below args s (zoI r) h') h 131 [] [.int s0] := by
  unfold f_X6_readParts_b131 at hf
  obtain ⟨_, e1, hf⟩ := zbind hf
  refine zretW hf ?_
  exact zr_iret C0 (ty := .boolean) rfl (zgd_n e1) dX6_readParts_131 rfl
def f_X6_readParts_b130 (E : zE) (h : zH) : Option (Int32 × zH) :=
  f_X6_readParts_b131 E (0 : Int32) h
theorem w_X6_readParts_b130 (C0 : zCx p l e R s m args below meth c D B0 3 "FranchiseLedgerModel" cX6_readParts E 6 171 (Option.some Jvm.ClassFile.FieldType.boolean) "readParts") {r : Int32} {h' : zH} {h : zH} (hf : f_X6_readParts_b130 E  h = some (r, h')) : zW p l e R s m args below meth c D B0 3 (zEnd D B0 R below args s (zoI r) h') h 130 [] [] := by
  unfold f_X6_readParts_b130 at hf
  refine zr_iconst C0 (v := 0) dX6_readParts_130 (by decide) ?_
  exact w_X6_readParts_b131 C0 hf
def f_X6_readParts_b161 (E : zE) (s0 : Int32) (h : zH) : Option (Int32 × zH) :=
  (zgd .boolean s0).bind fun _ =>
  some (s0, h)
theorem w_X6_readParts_b161 (C0 : zCx p l e R s m args below meth c D B0 3 "FranchiseLedgerModel" cX6_readParts E 6 171 (Option.some Jvm.ClassFile.FieldType.boolean) "readParts") {r : Int32} {h' : zH} {s0 : Int32} {h : zH} (hf : f_X6_readParts_b161 E s0 h = some (r, h')) : zW p l e R s m args below meth c D B0 3 (zEnd D B0 R below args s (zoI r) h') h 161 [] [.int s0] := by
  unfold f_X6_readParts_b161 at hf
  obtain ⟨_, e1, hf⟩ := zbind hf
  refine zretW hf ?_
  exact zr_iret C0 (ty := .boolean) rfl (zgd_n e1) dX6_readParts_161 rfl
def f_X6_readParts_b160 (E : zE) (h : zH) : Option (Int32 × zH) :=
  f_X6_readParts_b161 E (0 : Int32) h
theorem w_X6_readParts_b160 (C0 : zCx p l e R s m args below meth c D B0 3 "FranchiseLedgerModel" cX6_readParts E 6 171 (Option.some Jvm.ClassFile.FieldType.boolean) "readParts") {r : Int32} {h' : zH} {h : zH} (hf : f_X6_readParts_b160 E  h = some (r, h')) : zW p l e R s m args below meth c D B0 3 (zEnd D B0 R below args s (zoI r) h') h 160 [] [] := by
  unfold f_X6_readParts_b160 at hf
  refine zr_iconst C0 (v := 0) dX6_readParts_160 (by decide) ?_
  exact w_X6_readParts_b161 C0 hf
def f_X6_readParts_b132 (E : zE) (p0 : Nat) (p2 : Int32) (h : zH) : Option (Int32 × zH) :=
  (cko h p0 1).bind fun _ =>
  bnd2 (f_X6_readWho E p0 (p2 + (1 : Int32)) h) fun x4 h2 =>
  if x4 = 0 then (
    f_X6_readParts_b160 E  h2
  ) else (
    (cko h2 p0 1).bind fun _ =>
    bnd2 (f_X6_readPart E p0 (p2 + (2 : Int32)) (1 : Int32) (999999 : Int32) h2) fun x9 h7 =>
    if x9 = 0 then (
      f_X6_readParts_b160 E  h7
    ) else (
      f_X6_readParts_b161 E (1 : Int32) h7
    )
  )
theorem w_X6_readParts_b132 (C0 : zCx p l e R s m args below meth c D B0 3 "FranchiseLedgerModel" cX6_readParts E 6 171 (Option.some Jvm.ClassFile.FieldType.boolean) "readParts") {r : Int32} {h' : zH} {p0 : Nat} {p2 : Int32} {h : zH} (hf : f_X6_readParts_b132 E p0 p2 h = some (r, h')) : zW p l e R s m args below meth c D B0 3 (zEnd D B0 R below args s (zoI r) h') h 132 [(0, .ref p0), (2, .int p2)] [] := by
  unfold f_X6_readParts_b132 at hf
  refine zr_aload_n C0 dX6_readParts_132 rfl 0 rfl ?_
  refine zr_iload_n C0 dX6_readParts_133 rfl 1 rfl ?_
  refine zr_iconst C0 (v := 1) dX6_readParts_134 (by decide) ?_
  refine zr_iadd C0 dX6_readParts_135 ?_
  obtain ⟨_, e1, hf⟩ := zbind hf
  obtain ⟨x4, h2, e3, hf⟩ := zbind2 hf
  refine zr_callV_r C0 cv_X6_409_X6 rfl (zcko e1) (m_X6_readWho C0.2.2.2.2.2.2.1 e3) (by decide) (by decide) rfl rfl (Nat.le_of_ble_eq_true rfl) dX6_readParts_136 rfl ?_
  refine zr_if_eq C0 (tgt := 160) dX6_readParts_139 (by decide) (fun c5 => ?_) (fun c5 => ?_)
  · have hf := zif_t c5 hf
    refine zr_sub [] rfl ?_
    exact w_X6_readParts_b160 C0 hf
  · have hf := zif_f c5 hf
    refine zr_aload_n C0 dX6_readParts_142 rfl 0 rfl ?_
    refine zr_iload_n C0 dX6_readParts_143 rfl 1 rfl ?_
    refine zr_iconst C0 (v := 2) dX6_readParts_144 (by decide) ?_
    refine zr_iadd C0 dX6_readParts_145 ?_
    refine zr_iconst C0 (v := 1) dX6_readParts_146 (by decide) ?_
    refine zr_ldcw C0 (v := 999999) q3202 dX6_readParts_147 ?_
    obtain ⟨_, e6, hf⟩ := zbind hf
    obtain ⟨x9, h7, e8, hf⟩ := zbind2 hf
    refine zr_callV_r C0 cv_X6_405_X6 rfl (zcko e6) (m_X6_readPart C0.2.2.2.2.2.2.1 e8) (by decide) (by decide) rfl rfl (Nat.le_of_ble_eq_true rfl) dX6_readParts_150 rfl ?_
    refine zr_if_eq C0 (tgt := 160) dX6_readParts_153 (by decide) (fun c10 => ?_) (fun c10 => ?_)
    · have hf := zif_t c10 hf
      refine zr_sub [] rfl ?_
      exact w_X6_readParts_b160 C0 hf
    · have hf := zif_f c10 hf
      refine zr_iconst C0 (v := 1) dX6_readParts_156 (by decide) ?_
      refine zr_goto C0 (tgt := 161) dX6_readParts_157 (by decide) ?_
      refine zr_sub [] rfl ?_
      exact w_X6_readParts_b161 C0 hf
def f_X6_readParts_b211 (E : zE) (s0 : Int32) (h : zH) : Option (Int32 × zH) :=
  (zgd .boolean s0).bind fun _ =>
  some (s0, h)
theorem w_X6_readParts_b211 (C0 : zCx p l e R s m args below meth c D B0 3 "FranchiseLedgerModel" cX6_readParts E 6 171 (Option.some Jvm.ClassFile.FieldType.boolean) "readParts") {r : Int32} {h' : zH} {s0 : Int32} {h : zH} (hf : f_X6_readParts_b211 E s0 h = some (r, h')) : zW p l e R s m args below meth c D B0 3 (zEnd D B0 R below args s (zoI r) h') h 211 [] [.int s0] := by
  unfold f_X6_readParts_b211 at hf
  obtain ⟨_, e1, hf⟩ := zbind hf
  refine zretW hf ?_
  exact zr_iret C0 (ty := .boolean) rfl (zgd_n e1) dX6_readParts_211 rfl
def f_X6_readParts_b210 (E : zE) (h : zH) : Option (Int32 × zH) :=
  f_X6_readParts_b211 E (0 : Int32) h
theorem w_X6_readParts_b210 (C0 : zCx p l e R s m args below meth c D B0 3 "FranchiseLedgerModel" cX6_readParts E 6 171 (Option.some Jvm.ClassFile.FieldType.boolean) "readParts") {r : Int32} {h' : zH} {h : zH} (hf : f_X6_readParts_b210 E  h = some (r, h')) : zW p l e R s m args below meth c D B0 3 (zEnd D B0 R below args s (zoI r) h') h 210 [] [] := by
  unfold f_X6_readParts_b210 at hf
  refine zr_iconst C0 (v := 0) dX6_readParts_210 (by decide) ?_
  exact w_X6_readParts_b211 C0 hf
def f_X6_readParts_b0 (E : zE) (p0 : Nat) (p1 : Int32) (p2 : Int32) (h : zH) : Option (Int32 × zH) :=
  if p1 = 0 then (
    (cko h p0 1).bind fun _ =>
    bnd2 (f_X6_readPart E p0 (p2 + (1 : Int32)) (0 : Int32) (15 : Int32) h) fun x5 h3 =>
    if x5 = 0 then (
      f_X6_readParts_b71 E  h3
    ) else (
      (cko h3 p0 1).bind fun _ =>
      bnd2 (f_X6_readPart E p0 (p2 + (2 : Int32)) (0 : Int32) (100000 : Int32) h3) fun x10 h8 =>
      if x10 = 0 then (
        f_X6_readParts_b71 E  h8
      ) else (
        f_X6_readParts_b72 E (1 : Int32) h8
      )
    )
  ) else (
  if p1 = 1 then (
    (cko h p0 1).bind fun _ =>
    bnd2 (f_X6_readPart E p0 (p2 + (1 : Int32)) (0 : Int32) (15 : Int32) h) fun x16 h14 =>
    if x16 = 0 then (
      f_X6_readParts_b130 E  h14
    ) else (
      (cko h14 p0 1).bind fun _ =>
      bnd2 (f_X6_readPart E p0 (p2 + (2 : Int32)) (0 : Int32) (29 : Int32) h14) fun x21 h19 =>
      if x21 = 0 then (
        f_X6_readParts_b130 E  h19
      ) else (
        (cko h19 p0 1).bind fun _ =>
        bnd2 (f_X6_readPart E p0 (p2 + (3 : Int32)) (0 : Int32) (29 : Int32) h19) fun x26 h24 =>
        if x26 = 0 then (
          f_X6_readParts_b130 E  h24
        ) else (
          (cko h24 p0 1).bind fun _ =>
          bnd2 (f_X6_readPart E p0 (p2 + (4 : Int32)) (1 : Int32) (100000 : Int32) h24) fun x31 h29 =>
          if x31 = 0 then (
            f_X6_readParts_b130 E  h29
          ) else (
            f_X6_readParts_b131 E (1 : Int32) h29
          )
        )
      )
    )
  ) else (
  if p1 = 2 then (
    f_X6_readParts_b132 E p0 p2 h
  ) else (
  if p1 = 3 then (
    f_X6_readParts_b132 E p0 p2 h
  ) else (
  if p1 = 4 then (
    (cko h p0 1).bind fun _ =>
    bnd2 (f_X6_readPart E p0 (p2 + (1 : Int32)) (1 : Int32) (999999 : Int32) h) fun x39 h37 =>
    (zgd .boolean x39).bind fun _ =>
    some (x39, h37)
  ) else (
  if p1 = 5 then (
    (cko h p0 1).bind fun _ =>
    bnd2 (f_X6_readWho E p0 (p2 + (1 : Int32)) h) fun x45 h43 =>
    if x45 = 0 then (
      f_X6_readParts_b210 E  h43
    ) else (
      (cko h43 p0 1).bind fun _ =>
      bnd2 (f_X6_readPart E p0 (p2 + (2 : Int32)) (0 : Int32) (4 : Int32) h43) fun x50 h48 =>
      if x50 = 0 then (
        f_X6_readParts_b210 E  h48
      ) else (
        (cko h48 p0 1).bind fun _ =>
        bnd2 (f_X6_readVote E p0 (p2 + (3 : Int32)) h48) fun x55 h53 =>
        if x55 = 0 then (
          f_X6_readParts_b210 E  h53
        ) else (
          f_X6_readParts_b211 E (1 : Int32) h53
        )
      )
    )
  ) else (
    some ((1 : Int32), h)
  ))))))
theorem w_X6_readParts_b0 (C0 : zCx p l e R s m args below meth c D B0 3 "FranchiseLedgerModel" cX6_readParts E 6 171 (Option.some Jvm.ClassFile.FieldType.boolean) "readParts") {r : Int32} {h' : zH} {p0 : Nat} {p1 : Int32} {p2 : Int32} {h : zH} (hf : f_X6_readParts_b0 E p0 p1 p2 h = some (r, h')) : zW p l e R s m args below meth c D B0 3 (zEnd D B0 R below args s (zoI r) h') h 0 [(0, .ref p0), (1, .int p1), (2, .int p2)] [] := by
  unfold f_X6_readParts_b0 at hf
  refine zr_iload_n C0 dX6_readParts_0 rfl 1 rfl ?_
  rcases Decidable.em (p1 = 0) with c1 | c1
  · have hf := zif_t c1 hf
    refine zr_tableIn C0 (v := 0) (tgt := 40) dX6_readParts_1 c1 (by decide) (by decide) rfl (by decide) ?_
    refine zr_aload_n C0 dX6_readParts_40 rfl 0 rfl ?_
    refine zr_iload_n C0 dX6_readParts_41 rfl 2 rfl ?_
    refine zr_iconst C0 (v := 1) dX6_readParts_42 (by decide) ?_
    refine zr_iadd C0 dX6_readParts_43 ?_
    refine zr_iconst C0 (v := 0) dX6_readParts_44 (by decide) ?_
    refine zr_bipush C0 (v := 15) dX6_readParts_45 (by decide) ?_
    obtain ⟨_, e2, hf⟩ := zbind hf
    obtain ⟨x5, h3, e4, hf⟩ := zbind2 hf
    refine zr_callV_r C0 cv_X6_405_X6 rfl (zcko e2) (m_X6_readPart C0.2.2.2.2.2.2.1 e4) (by decide) (by decide) rfl rfl (Nat.le_of_ble_eq_true rfl) dX6_readParts_47 rfl ?_
    refine zr_if_eq C0 (tgt := 71) dX6_readParts_50 (by decide) (fun c6 => ?_) (fun c6 => ?_)
    · have hf := zif_t c6 hf
      refine zr_sub [] rfl ?_
      exact w_X6_readParts_b71 C0 hf
    · have hf := zif_f c6 hf
      refine zr_aload_n C0 dX6_readParts_53 rfl 0 rfl ?_
      refine zr_iload_n C0 dX6_readParts_54 rfl 2 rfl ?_
      refine zr_iconst C0 (v := 2) dX6_readParts_55 (by decide) ?_
      refine zr_iadd C0 dX6_readParts_56 ?_
      refine zr_iconst C0 (v := 0) dX6_readParts_57 (by decide) ?_
      refine zr_ldcw C0 (v := 100000) q3197 dX6_readParts_58 ?_
      obtain ⟨_, e7, hf⟩ := zbind hf
      obtain ⟨x10, h8, e9, hf⟩ := zbind2 hf
      refine zr_callV_r C0 cv_X6_405_X6 rfl (zcko e7) (m_X6_readPart C0.2.2.2.2.2.2.1 e9) (by decide) (by decide) rfl rfl (Nat.le_of_ble_eq_true rfl) dX6_readParts_61 rfl ?_
      refine zr_if_eq C0 (tgt := 71) dX6_readParts_64 (by decide) (fun c11 => ?_) (fun c11 => ?_)
      · have hf := zif_t c11 hf
        refine zr_sub [] rfl ?_
        exact w_X6_readParts_b71 C0 hf
      · have hf := zif_f c11 hf
        refine zr_iconst C0 (v := 1) dX6_readParts_67 (by decide) ?_
        refine zr_goto C0 (tgt := 72) dX6_readParts_68 (by decide) ?_
        refine zr_sub [] rfl ?_
        exact w_X6_readParts_b72 C0 hf
  have hf := zif_f c1 hf
  rcases Decidable.em (p1 = 1) with c12 | c12
  · have hf := zif_t c12 hf
    refine zr_tableIn C0 (v := 1) (tgt := 73) dX6_readParts_1 c12 (by decide) (by decide) rfl (by decide) ?_
    refine zr_aload_n C0 dX6_readParts_73 rfl 0 rfl ?_
    refine zr_iload_n C0 dX6_readParts_74 rfl 2 rfl ?_
    refine zr_iconst C0 (v := 1) dX6_readParts_75 (by decide) ?_
    refine zr_iadd C0 dX6_readParts_76 ?_
    refine zr_iconst C0 (v := 0) dX6_readParts_77 (by decide) ?_
    refine zr_bipush C0 (v := 15) dX6_readParts_78 (by decide) ?_
    obtain ⟨_, e13, hf⟩ := zbind hf
    obtain ⟨x16, h14, e15, hf⟩ := zbind2 hf
    refine zr_callV_r C0 cv_X6_405_X6 rfl (zcko e13) (m_X6_readPart C0.2.2.2.2.2.2.1 e15) (by decide) (by decide) rfl rfl (Nat.le_of_ble_eq_true rfl) dX6_readParts_80 rfl ?_
    refine zr_if_eq C0 (tgt := 130) dX6_readParts_83 (by decide) (fun c17 => ?_) (fun c17 => ?_)
    · have hf := zif_t c17 hf
      refine zr_sub [] rfl ?_
      exact w_X6_readParts_b130 C0 hf
    · have hf := zif_f c17 hf
      refine zr_aload_n C0 dX6_readParts_86 rfl 0 rfl ?_
      refine zr_iload_n C0 dX6_readParts_87 rfl 2 rfl ?_
      refine zr_iconst C0 (v := 2) dX6_readParts_88 (by decide) ?_
      refine zr_iadd C0 dX6_readParts_89 ?_
      refine zr_iconst C0 (v := 0) dX6_readParts_90 (by decide) ?_
      refine zr_bipush C0 (v := 29) dX6_readParts_91 (by decide) ?_
      obtain ⟨_, e18, hf⟩ := zbind hf
      obtain ⟨x21, h19, e20, hf⟩ := zbind2 hf
      refine zr_callV_r C0 cv_X6_405_X6 rfl (zcko e18) (m_X6_readPart C0.2.2.2.2.2.2.1 e20) (by decide) (by decide) rfl rfl (Nat.le_of_ble_eq_true rfl) dX6_readParts_93 rfl ?_
      refine zr_if_eq C0 (tgt := 130) dX6_readParts_96 (by decide) (fun c22 => ?_) (fun c22 => ?_)
      · have hf := zif_t c22 hf
        refine zr_sub [] rfl ?_
        exact w_X6_readParts_b130 C0 hf
      · have hf := zif_f c22 hf
        refine zr_aload_n C0 dX6_readParts_99 rfl 0 rfl ?_
        refine zr_iload_n C0 dX6_readParts_100 rfl 2 rfl ?_
        refine zr_iconst C0 (v := 3) dX6_readParts_101 (by decide) ?_
        refine zr_iadd C0 dX6_readParts_102 ?_
        refine zr_iconst C0 (v := 0) dX6_readParts_103 (by decide) ?_
        refine zr_bipush C0 (v := 29) dX6_readParts_104 (by decide) ?_
        obtain ⟨_, e23, hf⟩ := zbind hf
        obtain ⟨x26, h24, e25, hf⟩ := zbind2 hf
        refine zr_callV_r C0 cv_X6_405_X6 rfl (zcko e23) (m_X6_readPart C0.2.2.2.2.2.2.1 e25) (by decide) (by decide) rfl rfl (Nat.le_of_ble_eq_true rfl) dX6_readParts_106 rfl ?_
        refine zr_if_eq C0 (tgt := 130) dX6_readParts_109 (by decide) (fun c27 => ?_) (fun c27 => ?_)
        · have hf := zif_t c27 hf
          refine zr_sub [] rfl ?_
          exact w_X6_readParts_b130 C0 hf
        · have hf := zif_f c27 hf
          refine zr_aload_n C0 dX6_readParts_112 rfl 0 rfl ?_
          refine zr_iload_n C0 dX6_readParts_113 rfl 2 rfl ?_
          refine zr_iconst C0 (v := 4) dX6_readParts_114 (by decide) ?_
          refine zr_iadd C0 dX6_readParts_115 ?_
          refine zr_iconst C0 (v := 1) dX6_readParts_116 (by decide) ?_
          refine zr_ldcw C0 (v := 100000) q3197 dX6_readParts_117 ?_
          obtain ⟨_, e28, hf⟩ := zbind hf
          obtain ⟨x31, h29, e30, hf⟩ := zbind2 hf
          refine zr_callV_r C0 cv_X6_405_X6 rfl (zcko e28) (m_X6_readPart C0.2.2.2.2.2.2.1 e30) (by decide) (by decide) rfl rfl (Nat.le_of_ble_eq_true rfl) dX6_readParts_120 rfl ?_
          refine zr_if_eq C0 (tgt := 130) dX6_readParts_123 (by decide) (fun c32 => ?_) (fun c32 => ?_)
          · have hf := zif_t c32 hf
            refine zr_sub [] rfl ?_
            exact w_X6_readParts_b130 C0 hf
          · have hf := zif_f c32 hf
            refine zr_iconst C0 (v := 1) dX6_readParts_126 (by decide) ?_
            refine zr_goto C0 (tgt := 131) dX6_readParts_127 (by decide) ?_
            refine zr_sub [] rfl ?_
            exact w_X6_readParts_b131 C0 hf
  have hf := zif_f c12 hf
  rcases Decidable.em (p1 = 2) with c33 | c33
  · have hf := zif_t c33 hf
    refine zr_tableIn C0 (v := 2) (tgt := 132) dX6_readParts_1 c33 (by decide) (by decide) rfl (by decide) ?_
    refine zr_sub [0, 2] rfl ?_
    exact w_X6_readParts_b132 C0 hf
  have hf := zif_f c33 hf
  rcases Decidable.em (p1 = 3) with c34 | c34
  · have hf := zif_t c34 hf
    refine zr_tableIn C0 (v := 3) (tgt := 132) dX6_readParts_1 c34 (by decide) (by decide) rfl (by decide) ?_
    refine zr_sub [0, 2] rfl ?_
    exact w_X6_readParts_b132 C0 hf
  have hf := zif_f c34 hf
  rcases Decidable.em (p1 = 4) with c35 | c35
  · have hf := zif_t c35 hf
    refine zr_tableIn C0 (v := 4) (tgt := 162) dX6_readParts_1 c35 (by decide) (by decide) rfl (by decide) ?_
    refine zr_aload_n C0 dX6_readParts_162 rfl 0 rfl ?_
    refine zr_iload_n C0 dX6_readParts_163 rfl 2 rfl ?_
    refine zr_iconst C0 (v := 1) dX6_readParts_164 (by decide) ?_
    refine zr_iadd C0 dX6_readParts_165 ?_
    refine zr_iconst C0 (v := 1) dX6_readParts_166 (by decide) ?_
    refine zr_ldcw C0 (v := 999999) q3202 dX6_readParts_167 ?_
    obtain ⟨_, e36, hf⟩ := zbind hf
    obtain ⟨x39, h37, e38, hf⟩ := zbind2 hf
    refine zr_callV_r C0 cv_X6_405_X6 rfl (zcko e36) (m_X6_readPart C0.2.2.2.2.2.2.1 e38) (by decide) (by decide) rfl rfl (Nat.le_of_ble_eq_true rfl) dX6_readParts_170 rfl ?_
    obtain ⟨_, e40, hf⟩ := zbind hf
    refine zretW hf ?_
    exact zr_iret C0 (ty := .boolean) rfl (zgd_n e40) dX6_readParts_173 rfl
  have hf := zif_f c35 hf
  rcases Decidable.em (p1 = 5) with c41 | c41
  · have hf := zif_t c41 hf
    refine zr_tableIn C0 (v := 5) (tgt := 174) dX6_readParts_1 c41 (by decide) (by decide) rfl (by decide) ?_
    refine zr_aload_n C0 dX6_readParts_174 rfl 0 rfl ?_
    refine zr_iload_n C0 dX6_readParts_175 rfl 2 rfl ?_
    refine zr_iconst C0 (v := 1) dX6_readParts_176 (by decide) ?_
    refine zr_iadd C0 dX6_readParts_177 ?_
    obtain ⟨_, e42, hf⟩ := zbind hf
    obtain ⟨x45, h43, e44, hf⟩ := zbind2 hf
    refine zr_callV_r C0 cv_X6_409_X6 rfl (zcko e42) (m_X6_readWho C0.2.2.2.2.2.2.1 e44) (by decide) (by decide) rfl rfl (Nat.le_of_ble_eq_true rfl) dX6_readParts_178 rfl ?_
    refine zr_if_eq C0 (tgt := 210) dX6_readParts_181 (by decide) (fun c46 => ?_) (fun c46 => ?_)
    · have hf := zif_t c46 hf
      refine zr_sub [] rfl ?_
      exact w_X6_readParts_b210 C0 hf
    · have hf := zif_f c46 hf
      refine zr_aload_n C0 dX6_readParts_184 rfl 0 rfl ?_
      refine zr_iload_n C0 dX6_readParts_185 rfl 2 rfl ?_
      refine zr_iconst C0 (v := 2) dX6_readParts_186 (by decide) ?_
      refine zr_iadd C0 dX6_readParts_187 ?_
      refine zr_iconst C0 (v := 0) dX6_readParts_188 (by decide) ?_
      refine zr_iconst C0 (v := 4) dX6_readParts_189 (by decide) ?_
      obtain ⟨_, e47, hf⟩ := zbind hf
      obtain ⟨x50, h48, e49, hf⟩ := zbind2 hf
      refine zr_callV_r C0 cv_X6_405_X6 rfl (zcko e47) (m_X6_readPart C0.2.2.2.2.2.2.1 e49) (by decide) (by decide) rfl rfl (Nat.le_of_ble_eq_true rfl) dX6_readParts_190 rfl ?_
      refine zr_if_eq C0 (tgt := 210) dX6_readParts_193 (by decide) (fun c51 => ?_) (fun c51 => ?_)
      · have hf := zif_t c51 hf
        refine zr_sub [] rfl ?_
        exact w_X6_readParts_b210 C0 hf
      · have hf := zif_f c51 hf
        refine zr_aload_n C0 dX6_readParts_196 rfl 0 rfl ?_
        refine zr_iload_n C0 dX6_readParts_197 rfl 2 rfl ?_
        refine zr_iconst C0 (v := 3) dX6_readParts_198 (by decide) ?_
        refine zr_iadd C0 dX6_readParts_199 ?_
        obtain ⟨_, e52, hf⟩ := zbind hf
        obtain ⟨x55, h53, e54, hf⟩ := zbind2 hf
        refine zr_callV_r C0 cv_X6_413_X6 rfl (zcko e52) (m_X6_readVote C0.2.2.2.2.2.2.1 e54) (by decide) (by decide) rfl rfl (Nat.le_of_ble_eq_true rfl) dX6_readParts_200 rfl ?_
        refine zr_if_eq C0 (tgt := 210) dX6_readParts_203 (by decide) (fun c56 => ?_) (fun c56 => ?_)
        · have hf := zif_t c56 hf
          refine zr_sub [] rfl ?_
          exact w_X6_readParts_b210 C0 hf
        · have hf := zif_f c56 hf
          refine zr_iconst C0 (v := 1) dX6_readParts_206 (by decide) ?_
          refine zr_goto C0 (tgt := 211) dX6_readParts_207 (by decide) ?_
          refine zr_sub [] rfl ?_
          exact w_X6_readParts_b211 C0 hf
  have hf := zif_f c41 hf
  refine zr_tableOut C0 (tgt := 212) dX6_readParts_1 ?_ (by decide) ?_
  · have n0 := lv_neT (a := 0) c1 rfl; have n1 := lv_neT (a := 1) c12 rfl; have n2 := lv_neT (a := 2) c33 rfl; have n3 := lv_neT (a := 3) c34 rfl; have n4 := lv_neT (a := 4) c35 rfl; have n5 := lv_neT (a := 5) c41 rfl; omega
  refine zr_iconst C0 (v := 1) dX6_readParts_212 (by decide) ?_
  refine zretW hf ?_
  exact zr_iret C0 (ty := .boolean) rfl (by decide) dX6_readParts_213 rfl
def f_X6_readParts (E : zE) (p0 : Nat) (p1 : Int32) (p2 : Int32) (h : zH) : Option (Int32 × zH) := f_X6_readParts_b0 E p0 p1 p2 h
theorem m_X6_readParts {l : Launch} (hst : l.stackTraces = false) {D : zD} {B0 : Nat} {E : zE} {p0 : Nat} {p1 : Int32} {p2 : Int32} {h h' : zH} {r : Int32} (hf : f_X6_readParts E p0 p1 p2 h = some (r, h')) : zMet l yX6_readParts (ws_ yX6_readParts cX6_readParts 3 (Option.some Jvm.ClassFile.FieldType.boolean)) 6 171 D B0 E [.ref p0, .int p1, .int p2] h (zoI r) h' := by
  unfold f_X6_readParts at hf
  refine zMet_of hst (by decide +kernel) rfl rfl (Nat.le_of_ble_eq_true rfl) (fun p e R s m below meth c C0 hno => ?_)
  show zW _ _ _ _ _ _ _ _ _ _ _ _ _ _ _ _ [(0, .ref p0), (1, .int p1), (2, .int p2)] []
  exact w_X6_readParts_b0 C0 hf
def f_X6_readEntry_b80 (E : zE) (s0 : Int32) (h : zH) : Option (Int32 × zH) :=
  (zgd .boolean s0).bind fun _ =>
  some (s0, h)
theorem w_X6_readEntry_b80 (C0 : zCx p l e R s m args below meth c D B0 3 "FranchiseLedgerModel" cX6_readEntry E 7 193 (Option.some Jvm.ClassFile.FieldType.boolean) "readEntry") {r : Int32} {h' : zH} {s0 : Int32} {h : zH} (hf : f_X6_readEntry_b80 E s0 h = some (r, h')) : zW p l e R s m args below meth c D B0 3 (zEnd D B0 R below args s (zoI r) h') h 80 [] [.int s0] := by
  unfold f_X6_readEntry_b80 at hf
  obtain ⟨_, e1, hf⟩ := zbind hf
  refine zretW hf ?_
  exact zr_iret C0 (ty := .boolean) rfl (zgd_n e1) dX6_readEntry_80 rfl
def f_X6_readEntry_b79 (E : zE) (h : zH) : Option (Int32 × zH) :=
  f_X6_readEntry_b80 E (0 : Int32) h
theorem w_X6_readEntry_b79 (C0 : zCx p l e R s m args below meth c D B0 3 "FranchiseLedgerModel" cX6_readEntry E 7 193 (Option.some Jvm.ClassFile.FieldType.boolean) "readEntry") {r : Int32} {h' : zH} {h : zH} (hf : f_X6_readEntry_b79 E  h = some (r, h')) : zW p l e R s m args below meth c D B0 3 (zEnd D B0 R below args s (zoI r) h') h 79 [] [] := by
  unfold f_X6_readEntry_b79 at hf
  refine zr_iconst C0 (v := 0) dX6_readEntry_79 (by decide) ?_
  exact w_X6_readEntry_b80 C0 hf
def f_X6_readEntry_b0 (E : zE) (p0 : Nat) (h : zH) : Option (Int32 × zH) :=
  (cko h p0 1).bind fun _ =>
  bnd2 (f_X6_entryKind E p0 h) fun x4 h2 =>
  if x4 = (-1 : Int32) then (
    (cko h2 p0 1).bind fun _ =>
    bnd2 (f_X6_fail E p0 (1 : Int32) h2) fun x41 h39 =>
    (zgd .boolean x41).bind fun _ =>
    some (x41, h39)
  ) else (
    (gI h2 p0 1 21).bind fun x6 =>
    if x6 = (40 : Int32) then (
      (cko h2 p0 1).bind fun _ =>
      bnd2 (f_X6_fail E p0 (4 : Int32) h2) fun x36 h34 =>
      (zgd .boolean x36).bind fun _ =>
      some (x36, h34)
    ) else (
      (cko h2 p0 1).bind fun _ =>
      bnd2 (f_X6_advance E p0 h2) fun x12 h10 =>
      (gI h10 p0 1 21).bind fun x13 =>
      (gR h10 p0 1 18).bind fun x15 =>
      (sI h10 x15 0 ((5 : Int32) * x13) x4).bind fun h17 =>
      (gI h17 p0 1 21).bind fun x19 =>
      (pF h17 p0 1 21 (.int (x19 + (1 : Int32)))).bind fun h21 =>
      (cko h21 p0 1).bind fun _ =>
      bnd2 (f_X6_readParts E p0 x4 ((5 : Int32) * x13) h21) fun x26 h24 =>
      if x26 = 0 then (
        f_X6_readEntry_b79 E  h24
      ) else (
        (cko h24 p0 1).bind fun _ =>
        bnd2 (f_X6_readEnd E p0 h24) fun x31 h29 =>
        if x31 = 0 then (
          f_X6_readEntry_b79 E  h29
        ) else (
          f_X6_readEntry_b80 E (1 : Int32) h29
        )
      )
    )
  )
theorem w_X6_readEntry_b0 (C0 : zCx p l e R s m args below meth c D B0 3 "FranchiseLedgerModel" cX6_readEntry E 7 193 (Option.some Jvm.ClassFile.FieldType.boolean) "readEntry") {r : Int32} {h' : zH} {p0 : Nat} {h : zH} (hf : f_X6_readEntry_b0 E p0 h = some (r, h')) : zW p l e R s m args below meth c D B0 3 (zEnd D B0 R below args s (zoI r) h') h 0 [(0, .ref p0)] [] := by
  unfold f_X6_readEntry_b0 at hf
  refine zr_aload_n C0 dX6_readEntry_0 rfl 0 rfl ?_
  obtain ⟨_, e1, hf⟩ := zbind hf
  obtain ⟨x4, h2, e3, hf⟩ := zbind2 hf
  refine zr_callV_r C0 cv_X6_416_X6 rfl (zcko e1) (m_X6_entryKind C0.2.2.2.2.2.2.1 e3) (by decide) (by decide) rfl rfl (Nat.le_of_ble_eq_true rfl) dX6_readEntry_1 rfl ?_
  refine zr_istore_n (i := 1) (lv' := [(1, .int x4), (0, .ref p0)]) C0 dX6_readEntry_4 rfl (by decide) (by first | rfl | simp [zst1, zst2, zcat_rf]) ?_
  refine zr_iload_n C0 dX6_readEntry_5 rfl 0 rfl ?_
  refine zr_iconst C0 (v := -1) dX6_readEntry_6 (by decide) ?_
  refine zr_icmp_ne C0 (tgt := 16) dX6_readEntry_7 (by decide) (fun c5 => ?_) (fun c5 => ?_)
  · have hf := zif_f c5 hf
    refine zr_aload_n C0 dX6_readEntry_16 rfl 1 rfl ?_
    obtain ⟨x6, e7, hf⟩ := zbind hf
    refine zr_get C0 fl_X6_419_X6 dX6_readEntry_17 (zgI e7) ?_
    refine zr_bipush C0 (v := 40) dX6_readEntry_20 (by decide) ?_
    refine zr_icmp_ne C0 (tgt := 31) dX6_readEntry_22 (by decide) (fun c8 => ?_) (fun c8 => ?_)
    · have hf := zif_f c8 hf
      refine zr_aload_n C0 dX6_readEntry_31 rfl 1 rfl ?_
      obtain ⟨_, e9, hf⟩ := zbind hf
      obtain ⟨x12, h10, e11, hf⟩ := zbind2 hf
      refine zr_callV_r C0 cv_X6_345_X6 rfl (zcko e9) (m_X6_advance C0.2.2.2.2.2.2.1 e11) (by decide) (by decide) rfl rfl (Nat.le_of_ble_eq_true rfl) dX6_readEntry_32 rfl ?_
      refine zr_iconst C0 (v := 5) dX6_readEntry_35 (by decide) ?_
      refine zr_aload_n C0 dX6_readEntry_36 rfl 1 rfl ?_
      obtain ⟨x13, e14, hf⟩ := zbind hf
      refine zr_get C0 fl_X6_419_X6 dX6_readEntry_37 (zgI e14) ?_
      refine zr_imul C0 dX6_readEntry_40 ?_
      refine zr_istore_n (i := 2) (lv' := [(2, .int ((5 : Int32) * x13)), (1, .int x4), (0, .ref p0)]) C0 dX6_readEntry_41 rfl (by decide) (by first | rfl | simp [zst1, zst2, zcat_rf]) ?_
      refine zr_aload_n C0 dX6_readEntry_42 rfl 2 rfl ?_
      obtain ⟨x15, e16, hf⟩ := zbind hf
      refine zr_get C0 fl_X6_41_X6 dX6_readEntry_43 (zgR e16) ?_
      refine zr_iload_n C0 dX6_readEntry_46 rfl 0 rfl ?_
      refine zr_iload_n C0 dX6_readEntry_47 rfl 1 rfl ?_
      obtain ⟨h17, e18, hf⟩ := zbind hf
      refine zr_iast C0 dX6_readEntry_48 e18 ?_
      refine zr_aload_n C0 dX6_readEntry_49 rfl 2 rfl ?_
      refine zr_dup C0 dX6_readEntry_50 rfl ?_
      obtain ⟨x19, e20, hf⟩ := zbind hf
      refine zr_get C0 fl_X6_419_X6 dX6_readEntry_51 (zgI e20) ?_
      refine zr_iconst C0 (v := 1) dX6_readEntry_54 (by decide) ?_
      refine zr_iadd C0 dX6_readEntry_55 ?_
      obtain ⟨h21, e22, hf⟩ := zbind hf
      refine zr_put C0 pl_X6_419_X6 dX6_readEntry_56 (fun h => by cases h) rfl rfl e22 ?_
      refine zr_aload_n C0 dX6_readEntry_59 rfl 2 rfl ?_
      refine zr_iload_n C0 dX6_readEntry_60 rfl 1 rfl ?_
      refine zr_iload_n C0 dX6_readEntry_61 rfl 0 rfl ?_
      obtain ⟨_, e23, hf⟩ := zbind hf
      obtain ⟨x26, h24, e25, hf⟩ := zbind2 hf
      refine zr_callV_r C0 cv_X6_422_X6 rfl (zcko e23) (m_X6_readParts C0.2.2.2.2.2.2.1 e25) (by decide) (by decide) rfl rfl (Nat.le_of_ble_eq_true rfl) dX6_readEntry_62 rfl ?_
      refine zr_if_eq C0 (tgt := 79) dX6_readEntry_65 (by decide) (fun c27 => ?_) (fun c27 => ?_)
      · have hf := zif_t c27 hf
        refine zr_sub [] rfl ?_
        exact w_X6_readEntry_b79 C0 hf
      · have hf := zif_f c27 hf
        refine zr_aload_n C0 dX6_readEntry_68 rfl 2 rfl ?_
        obtain ⟨_, e28, hf⟩ := zbind hf
        obtain ⟨x31, h29, e30, hf⟩ := zbind2 hf
        refine zr_callV_r C0 cv_X6_361_X6 rfl (zcko e28) (m_X6_readEnd C0.2.2.2.2.2.2.1 e30) (by decide) (by decide) rfl rfl (Nat.le_of_ble_eq_true rfl) dX6_readEntry_69 rfl ?_
        refine zr_if_eq C0 (tgt := 79) dX6_readEntry_72 (by decide) (fun c32 => ?_) (fun c32 => ?_)
        · have hf := zif_t c32 hf
          refine zr_sub [] rfl ?_
          exact w_X6_readEntry_b79 C0 hf
        · have hf := zif_f c32 hf
          refine zr_iconst C0 (v := 1) dX6_readEntry_75 (by decide) ?_
          refine zr_goto C0 (tgt := 80) dX6_readEntry_76 (by decide) ?_
          refine zr_sub [] rfl ?_
          exact w_X6_readEntry_b80 C0 hf
    · have hf := zif_t c8 hf
      refine zr_aload_n C0 dX6_readEntry_25 rfl 1 rfl ?_
      refine zr_iconst C0 (v := 4) dX6_readEntry_26 (by decide) ?_
      obtain ⟨_, e33, hf⟩ := zbind hf
      obtain ⟨x36, h34, e35, hf⟩ := zbind2 hf
      refine zr_callV_r C0 cv_X6_339_X6 rfl (zcko e33) (m_X6_fail C0.2.2.2.2.2.2.1 e35) (by decide) (by decide) rfl rfl (Nat.le_of_ble_eq_true rfl) dX6_readEntry_27 rfl ?_
      obtain ⟨_, e37, hf⟩ := zbind hf
      refine zretW hf ?_
      exact zr_iret C0 (ty := .boolean) rfl (zgd_n e37) dX6_readEntry_30 rfl
  · have hf := zif_t c5 hf
    refine zr_aload_n C0 dX6_readEntry_10 rfl 1 rfl ?_
    refine zr_iconst C0 (v := 1) dX6_readEntry_11 (by decide) ?_
    obtain ⟨_, e38, hf⟩ := zbind hf
    obtain ⟨x41, h39, e40, hf⟩ := zbind2 hf
    refine zr_callV_r C0 cv_X6_339_X6 rfl (zcko e38) (m_X6_fail C0.2.2.2.2.2.2.1 e40) (by decide) (by decide) rfl rfl (Nat.le_of_ble_eq_true rfl) dX6_readEntry_12 rfl ?_
    obtain ⟨_, e42, hf⟩ := zbind hf
    refine zretW hf ?_
    exact zr_iret C0 (ty := .boolean) rfl (zgd_n e42) dX6_readEntry_15 rfl
def f_X6_readEntry (E : zE) (p0 : Nat) (h : zH) : Option (Int32 × zH) := f_X6_readEntry_b0 E p0 h
theorem m_X6_readEntry {l : Launch} (hst : l.stackTraces = false) {D : zD} {B0 : Nat} {E : zE} {p0 : Nat} {h h' : zH} {r : Int32} (hf : f_X6_readEntry E p0 h = some (r, h')) : zMet l yX6_readEntry (ws_ yX6_readEntry cX6_readEntry 3 (Option.some Jvm.ClassFile.FieldType.boolean)) 7 193 D B0 E [.ref p0] h (zoI r) h' := by
  unfold f_X6_readEntry at hf
  refine zMet_of hst (by decide +kernel) rfl rfl (Nat.le_of_ble_eq_true rfl) (fun p e R s m below meth c C0 hno => ?_)
  show zW _ _ _ _ _ _ _ _ _ _ _ _ _ _ _ _ [(0, .ref p0)] []
  exact w_X6_readEntry_b0 C0 hf
def f_X6_loadJournal_l49 (E : zE) : Nat → Nat → Int32 → zH → Option (Int32 × zH)
  | 0, _, _, _ => none
  | n + 1, p0, p2, h =>
    (gI h p0 1 21).bind fun x1 =>
    if ((5 : Int32) * x1) ≤ p2 then (
      (gI h p0 1 21).bind fun x4 =>
      (pF h p0 1 19 (.int x4)).bind fun h6 =>
      (pF h6 p0 1 20 (.int (0 : Int32))).bind fun h8 =>
      (gI h8 p0 1 21).bind fun x10 =>
      some (x10, h8)
    ) else (
      (gR h p0 1 17).bind fun x12 =>
      (gR h p0 1 18).bind fun x14 =>
      (dI h x14 0 p2).bind fun x16 =>
      (sI h x12 0 p2 x16).bind fun h18 =>
      f_X6_loadJournal_l49 E n p0 (p2 + 1) h18
    )
theorem w_X6_loadJournal_l49 (C0 : zCx p l e R s m args below meth c D B0 3 "FranchiseLedgerModel" cX6_loadJournal E 8 215 (Option.some Jvm.ClassFile.FieldType.int) "loadJournal") {r : Int32} {h' : zH} : ∀ (n : Nat) (p0 : Nat) (p2 : Int32) (h : zH), f_X6_loadJournal_l49 E n p0 p2 h = some (r, h') → zW p l e R s m args below meth c D B0 3 (zEnd D B0 R below args s (zoI r) h') h 49 [(0, .ref p0), (2, .int p2)] [] := by
  intro n
  induction n with
  | zero =>
    intro p0 p2 h hf
    unfold f_X6_loadJournal_l49 at hf
    cases hf
  | succ n ih =>
    intro p0 p2 h hf
    unfold f_X6_loadJournal_l49 at hf
    refine zr_iload_n C0 dX6_loadJournal_49 rfl 1 rfl ?_
    refine zr_iconst C0 (v := 5) dX6_loadJournal_50 (by decide) ?_
    refine zr_aload_n C0 dX6_loadJournal_51 rfl 0 rfl ?_
    obtain ⟨x1, e2, hf⟩ := zbind hf
    refine zr_get C0 fl_X6_419_X6 dX6_loadJournal_52 (zgI e2) ?_
    refine zr_imul C0 dX6_loadJournal_55 ?_
    refine zr_icmp_ge C0 (tgt := 77) dX6_loadJournal_56 (by decide) (fun c3 => ?_) (fun c3 => ?_)
    · have hf := zif_t c3 hf
      refine zr_aload_n C0 dX6_loadJournal_77 rfl 0 rfl ?_
      refine zr_aload_n C0 dX6_loadJournal_78 rfl 0 rfl ?_
      obtain ⟨x4, e5, hf⟩ := zbind hf
      refine zr_get C0 fl_X6_419_X6 dX6_loadJournal_79 (zgI e5) ?_
      obtain ⟨h6, e7, hf⟩ := zbind hf
      refine zr_put C0 pl_X6_75_X6 dX6_loadJournal_82 (fun h => by cases h) rfl rfl e7 ?_
      refine zr_aload_n C0 dX6_loadJournal_85 rfl 0 rfl ?_
      refine zr_iconst C0 (v := 0) dX6_loadJournal_86 (by decide) ?_
      obtain ⟨h8, e9, hf⟩ := zbind hf
      refine zr_put C0 pl_X6_78_X6 dX6_loadJournal_87 (fun h => by cases h) rfl rfl e9 ?_
      refine zr_aload_n C0 dX6_loadJournal_90 rfl 0 rfl ?_
      obtain ⟨x10, e11, hf⟩ := zbind hf
      refine zr_get C0 fl_X6_419_X6 dX6_loadJournal_91 (zgI e11) ?_
      refine zretW hf ?_
      exact zr_iret C0 (ty := .int) rfl rfl dX6_loadJournal_94 rfl
    · have hf := zif_f c3 hf
      refine zr_aload_n C0 dX6_loadJournal_59 rfl 0 rfl ?_
      obtain ⟨x12, e13, hf⟩ := zbind hf
      refine zr_get C0 fl_X6_37_X6 dX6_loadJournal_60 (zgR e13) ?_
      refine zr_iload_n C0 dX6_loadJournal_63 rfl 1 rfl ?_
      refine zr_aload_n C0 dX6_loadJournal_64 rfl 0 rfl ?_
      obtain ⟨x14, e15, hf⟩ := zbind hf
      refine zr_get C0 fl_X6_41_X6 dX6_loadJournal_65 (zgR e15) ?_
      refine zr_iload_n C0 dX6_loadJournal_68 rfl 1 rfl ?_
      obtain ⟨x16, e17, hf⟩ := zbind hf
      refine zr_iald C0 dX6_loadJournal_69 e17 ?_
      obtain ⟨h18, e19, hf⟩ := zbind hf
      refine zr_iast C0 dX6_loadJournal_70 e19 ?_
      refine zr_iinc (lv' := [(2, .int (p2 + 1)), (0, .ref p0)]) C0 dX6_loadJournal_71 1 rfl rfl (by decide) (by first | rfl | simp [zst1, zst2, zcat_rf]) ?_
      refine zr_goto C0 (tgt := 49) dX6_loadJournal_74 (by decide) ?_
      refine zr_sub [1, 0] rfl ?_
      exact ih _ _ _ hf
def f_X6_loadJournal_b35 (E : zE) (p0 : Nat) (p1 : Int32) (h : zH) : Option (Int32 × zH) :=
  (pF h p0 1 9 (.int (0 : Int32))).bind fun h1 =>
  if p1 = 0 then (
    some ((-4 : Int32), h1)
  ) else (
    f_X6_loadJournal_l49 E E.1 p0 (0 : Int32) h1
  )
theorem w_X6_loadJournal_b35 (C0 : zCx p l e R s m args below meth c D B0 3 "FranchiseLedgerModel" cX6_loadJournal E 8 215 (Option.some Jvm.ClassFile.FieldType.int) "loadJournal") {r : Int32} {h' : zH} {p0 : Nat} {p1 : Int32} {h : zH} (hf : f_X6_loadJournal_b35 E p0 p1 h = some (r, h')) : zW p l e R s m args below meth c D B0 3 (zEnd D B0 R below args s (zoI r) h') h 35 [(0, .ref p0), (1, .int p1)] [] := by
  unfold f_X6_loadJournal_b35 at hf
  refine zr_aload_n C0 dX6_loadJournal_35 rfl 0 rfl ?_
  refine zr_iconst C0 (v := 0) dX6_loadJournal_36 (by decide) ?_
  obtain ⟨h1, e2, hf⟩ := zbind hf
  refine zr_put C0 pl_X6_296_X6 dX6_loadJournal_37 (fun h => by cases h) rfl rfl e2 ?_
  refine zr_iload_n C0 dX6_loadJournal_40 rfl 1 rfl ?_
  refine zr_if_ne C0 (tgt := 47) dX6_loadJournal_41 (by decide) (fun c3 => ?_) (fun c3 => ?_)
  · have hf := zif_f c3 hf
    refine zr_iconst C0 (v := 0) dX6_loadJournal_47 (by decide) ?_
    refine zr_istore_n (i := 2) (lv' := [(2, .int (0 : Int32)), (0, .ref p0), (1, .int p1)]) C0 dX6_loadJournal_48 rfl (by decide) (by first | rfl | simp [zst1, zst2, zcat_rf]) ?_
    refine zr_sub [1, 0] rfl ?_
    exact w_X6_loadJournal_l49 C0 _ _ _ _ hf
  · have hf := zif_t c3 hf
    refine zr_bipush C0 (v := -4) dX6_loadJournal_44 (by decide) ?_
    refine zretW hf ?_
    exact zr_iret C0 (ty := .int) rfl rfl dX6_loadJournal_46 rfl
def f_X6_loadJournal_l16 (E : zE) : Nat → Nat → Int32 → zH → Option (Int32 × zH)
  | 0, _, _, _ => none
  | n + 1, p0, p1, h =>
    if p1 = 0 then (
      f_X6_loadJournal_b35 E p0 p1 h
    ) else (
      (gI h p0 1 13).bind fun x2 =>
      if x2 = 0 then (
        f_X6_loadJournal_b35 E p0 p1 h
      ) else (
        (cko h p0 1).bind fun _ =>
        bnd2 (f_X6_readEntry E p0 h) fun x8 h6 =>
        f_X6_loadJournal_l16 E n p0 x8 h6
      )
    )
theorem w_X6_loadJournal_l16 (C0 : zCx p l e R s m args below meth c D B0 3 "FranchiseLedgerModel" cX6_loadJournal E 8 215 (Option.some Jvm.ClassFile.FieldType.int) "loadJournal") {r : Int32} {h' : zH} : ∀ (n : Nat) (p0 : Nat) (p1 : Int32) (h : zH), f_X6_loadJournal_l16 E n p0 p1 h = some (r, h') → zW p l e R s m args below meth c D B0 3 (zEnd D B0 R below args s (zoI r) h') h 16 [(0, .ref p0), (1, .int p1)] [] := by
  intro n
  induction n with
  | zero =>
    intro p0 p1 h hf
    unfold f_X6_loadJournal_l16 at hf
    cases hf
  | succ n ih =>
    intro p0 p1 h hf
    unfold f_X6_loadJournal_l16 at hf
    refine zr_iload_n C0 dX6_loadJournal_16 rfl 1 rfl ?_
    refine zr_if_eq C0 (tgt := 35) dX6_loadJournal_17 (by decide) (fun c1 => ?_) (fun c1 => ?_)
    · have hf := zif_t c1 hf
      exact w_X6_loadJournal_b35 C0 hf
    · have hf := zif_f c1 hf
      refine zr_aload_n C0 dX6_loadJournal_20 rfl 0 rfl ?_
      obtain ⟨x2, e3, hf⟩ := zbind hf
      refine zr_get C0 fl_X6_332_X6 dX6_loadJournal_21 (zgI e3) ?_
      refine zr_if_eq C0 (tgt := 35) dX6_loadJournal_24 (by decide) (fun c4 => ?_) (fun c4 => ?_)
      · have hf := zif_t c4 hf
        exact w_X6_loadJournal_b35 C0 hf
      · have hf := zif_f c4 hf
        refine zr_aload_n C0 dX6_loadJournal_27 rfl 0 rfl ?_
        obtain ⟨_, e5, hf⟩ := zbind hf
        obtain ⟨x8, h6, e7, hf⟩ := zbind2 hf
        refine zr_callV_r C0 cv_X6_425_X6 rfl (zcko e5) (m_X6_readEntry C0.2.2.2.2.2.2.1 e7) (by decide) (by decide) rfl rfl (Nat.le_of_ble_eq_true rfl) dX6_loadJournal_28 rfl ?_
        refine zr_istore_n (i := 1) (lv' := [(1, .int x8), (0, .ref p0)]) C0 dX6_loadJournal_31 rfl (by decide) (by first | rfl | simp [zst1, zst2, zcat_rf]) ?_
        refine zr_goto C0 (tgt := 16) dX6_loadJournal_32 (by decide) ?_
        refine zr_sub [1, 0] rfl ?_
        exact ih _ _ _ hf
def f_X6_loadJournal_b0 (E : zE) (p0 : Nat) (h : zH) : Option (Int32 × zH) :=
  (pF h p0 1 2 (.int (0 : Int32))).bind fun h1 =>
  (pF h1 p0 1 21 (.int (0 : Int32))).bind fun h3 =>
  (cko h3 p0 1).bind fun _ =>
  bnd2 (f_X6_beginText E p0 h3) fun x8 h6 =>
  f_X6_loadJournal_l16 E E.1 p0 (1 : Int32) h6
theorem w_X6_loadJournal_b0 (C0 : zCx p l e R s m args below meth c D B0 3 "FranchiseLedgerModel" cX6_loadJournal E 8 215 (Option.some Jvm.ClassFile.FieldType.int) "loadJournal") {r : Int32} {h' : zH} {p0 : Nat} {h : zH} (hf : f_X6_loadJournal_b0 E p0 h = some (r, h')) : zW p l e R s m args below meth c D B0 3 (zEnd D B0 R below args s (zoI r) h') h 0 [(0, .ref p0)] [] := by
  unfold f_X6_loadJournal_b0 at hf
  refine zr_aload_n C0 dX6_loadJournal_0 rfl 0 rfl ?_
  refine zr_iconst C0 (v := 0) dX6_loadJournal_1 (by decide) ?_
  obtain ⟨h1, e2, hf⟩ := zbind hf
  refine zr_put C0 pl_X6_50_X6 dX6_loadJournal_2 (fun h => by cases h) rfl rfl e2 ?_
  refine zr_aload_n C0 dX6_loadJournal_5 rfl 0 rfl ?_
  refine zr_iconst C0 (v := 0) dX6_loadJournal_6 (by decide) ?_
  obtain ⟨h3, e4, hf⟩ := zbind hf
  refine zr_put C0 pl_X6_419_X6 dX6_loadJournal_7 (fun h => by cases h) rfl rfl e4 ?_
  refine zr_aload_n C0 dX6_loadJournal_10 rfl 0 rfl ?_
  obtain ⟨_, e5, hf⟩ := zbind hf
  obtain ⟨x8, h6, e7, hf⟩ := zbind2 hf
  refine zr_callV_r C0 cv_X6_399_X6 rfl (zcko e5) (m_X6_beginText C0.2.2.2.2.2.2.1 e7) (by decide) (by decide) rfl rfl (Nat.le_of_ble_eq_true rfl) dX6_loadJournal_11 rfl ?_
  refine zr_iconst C0 (v := 1) dX6_loadJournal_14 (by decide) ?_
  refine zr_istore_n (i := 1) (lv' := [(1, .int (1 : Int32)), (0, .ref p0)]) C0 dX6_loadJournal_15 rfl (by decide) (by first | rfl | simp [zst1, zst2, zcat_rf]) ?_
  refine zr_sub [1, 0] rfl ?_
  exact w_X6_loadJournal_l16 C0 _ _ _ _ hf
def f_X6_loadJournal (E : zE) (p0 : Nat) (h : zH) : Option (Int32 × zH) := f_X6_loadJournal_b0 E p0 h
theorem m_X6_loadJournal {l : Launch} (hst : l.stackTraces = false) {D : zD} {B0 : Nat} {E : zE} {p0 : Nat} {h h' : zH} {r : Int32} (hf : f_X6_loadJournal E p0 h = some (r, h')) : zMet l yX6_loadJournal (ws_ yX6_loadJournal cX6_loadJournal 3 (Option.some Jvm.ClassFile.FieldType.int)) 8 215 D B0 E [.ref p0] h (zoI r) h' := by
  unfold f_X6_loadJournal at hf
  refine zMet_of hst (by decide +kernel) rfl rfl (Nat.le_of_ble_eq_true rfl) (fun p e R s m below meth c C0 hno => ?_)
  show zW _ _ _ _ _ _ _ _ _ _ _ _ _ _ _ _ [(0, .ref p0)] []
  exact w_X6_loadJournal_b0 C0 hf
def f_X6_entry_b0 (E : zE) (p0 : Nat) (p1 : Int32) (h : zH) : Option (Int32 × zH) :=
  (gR h p0 1 17).bind fun x1 =>
  (gI h p0 1 20).bind fun x3 =>
  (dI h x1 0 (((5 : Int32) * x3) + p1)).bind fun x5 =>
  some (x5, h)
theorem w_X6_entry_b0 (C0 : zCx p l e R s m args below meth c D B0 2 "FranchiseLedgerModel" cX6_entry E 1 60 (Option.some Jvm.ClassFile.FieldType.int) "entry") {r : Int32} {h' : zH} {p0 : Nat} {p1 : Int32} {h : zH} (hf : f_X6_entry_b0 E p0 p1 h = some (r, h')) : zW p l e R s m args below meth c D B0 2 (zEnd D B0 R below args s (zoI r) h') h 0 [(0, .ref p0), (1, .int p1)] [] := by
  unfold f_X6_entry_b0 at hf
  refine zr_aload_n C0 dX6_entry_0 rfl 0 rfl ?_
  obtain ⟨x1, e2, hf⟩ := zbind hf
  refine zr_get C0 fl_X6_37_X6 dX6_entry_1 (zgR e2) ?_
  refine zr_iconst C0 (v := 5) dX6_entry_4 (by decide) ?_
  refine zr_aload_n C0 dX6_entry_5 rfl 0 rfl ?_
  obtain ⟨x3, e4, hf⟩ := zbind hf
  refine zr_get C0 fl_X6_78_X6 dX6_entry_6 (zgI e4) ?_
  refine zr_imul C0 dX6_entry_9 ?_
  refine zr_iload_n C0 dX6_entry_10 rfl 1 rfl ?_
  refine zr_iadd C0 dX6_entry_11 ?_
  obtain ⟨x5, e6, hf⟩ := zbind hf
  refine zr_iald C0 dX6_entry_12 e6 ?_
  refine zretW hf ?_
  exact zr_iret C0 (ty := .int) rfl rfl dX6_entry_13 rfl
def f_X6_entry (E : zE) (p0 : Nat) (p1 : Int32) (h : zH) : Option (Int32 × zH) := f_X6_entry_b0 E p0 p1 h
theorem m_X6_entry {l : Launch} (hst : l.stackTraces = false) {D : zD} {B0 : Nat} {E : zE} {p0 : Nat} {p1 : Int32} {h h' : zH} {r : Int32} (hf : f_X6_entry E p0 p1 h = some (r, h')) : zMet l yX6_entry (ws_ yX6_entry cX6_entry 2 (Option.some Jvm.ClassFile.FieldType.int)) 1 60 D B0 E [.ref p0, .int p1] h (zoI r) h' := by
  unfold f_X6_entry at hf
  refine zMet_of hst (by decide +kernel) rfl rfl (Nat.le_of_ble_eq_true rfl) (fun p e R s m below meth c C0 hno => ?_)
  show zW _ _ _ _ _ _ _ _ _ _ _ _ _ _ _ _ [(0, .ref p0), (1, .int p1)] []
  exact w_X6_entry_b0 C0 hf
def f_X6_cents_b0 (E : zE) (p0 : Nat) (p1 : Int32) (h : zH) : Option (Int64 × zH) :=
  (cko h p0 1).bind fun _ =>
  bnd2 (f_X6_entry E p0 p1 h) fun x4 h2 =>
  some (((100 : Int64) * (x4.toInt64)), h2)
theorem w_X6_cents_b0 (C0 : zCx p l e R s m args below meth c D B0 2 "FranchiseLedgerModel" cX6_cents E 2 81 (Option.some Jvm.ClassFile.FieldType.long) "cents") {r : Int64} {h' : zH} {p0 : Nat} {p1 : Int32} {h : zH} (hf : f_X6_cents_b0 E p0 p1 h = some (r, h')) : zW p l e R s m args below meth c D B0 2 (zEnd D B0 R below args s (zoL r) h') h 0 [(0, .ref p0), (1, .int p1)] [] := by
  unfold f_X6_cents_b0 at hf
  refine zr_ldc2 C0 (v := 100) q2752 dX6_cents_0 ?_
  refine zr_aload_n C0 dX6_cents_3 rfl 0 rfl ?_
  refine zr_iload_n C0 dX6_cents_4 rfl 1 rfl ?_
  obtain ⟨_, e1, hf⟩ := zbind hf
  obtain ⟨x4, h2, e3, hf⟩ := zbind2 hf
  refine zr_callV_r C0 cv_X6_428_X6 rfl (zcko e1) (m_X6_entry C0.2.2.2.2.2.2.1 e3) (by decide) (by decide) rfl rfl (Nat.le_of_ble_eq_true rfl) dX6_cents_5 rfl ?_
  refine zr_i2l C0 dX6_cents_8 ?_
  refine zr_lmul C0 dX6_cents_9 ?_
  refine zretW hf ?_
  exact zr_lret C0 rfl dX6_cents_10 rfl
def f_X6_cents (E : zE) (p0 : Nat) (p1 : Int32) (h : zH) : Option (Int64 × zH) := f_X6_cents_b0 E p0 p1 h
theorem m_X6_cents {l : Launch} (hst : l.stackTraces = false) {D : zD} {B0 : Nat} {E : zE} {p0 : Nat} {p1 : Int32} {h h' : zH} {r : Int64} (hf : f_X6_cents E p0 p1 h = some (r, h')) : zMet l yX6_cents (ws_ yX6_cents cX6_cents 2 (Option.some Jvm.ClassFile.FieldType.long)) 2 81 D B0 E [.ref p0, .int p1] h (zoL r) h' := by
  unfold f_X6_cents at hf
  refine zMet_of hst (by decide +kernel) rfl rfl (Nat.le_of_ble_eq_true rfl) (fun p e R s m below meth c C0 hno => ?_)
  show zW _ _ _ _ _ _ _ _ _ _ _ _ _ _ _ _ [(0, .ref p0), (1, .int p1)] []
  exact w_X6_cents_b0 C0 hf
def f_X6_execute_b217 (E : zE) (p0 : Nat) (s0 : Int32) (s1 : Int32) (h : zH) : Option (Int32 × zH) :=
  (pF h p0 1 2 (.int (0 : Int32))).bind fun h1 =>
  (zgd .boolean (s0 &&& s1)).bind fun _ =>
  some ((s0 &&& s1), h1)
theorem w_X6_execute_b217 (C0 : zCx p l e R s m args below meth c D B0 2 "FranchiseLedgerModel" cX6_execute E 6 179 (Option.some Jvm.ClassFile.FieldType.boolean) "execute") {r : Int32} {h' : zH} {p0 : Nat} {s0 : Int32} {s1 : Int32} {h : zH} (hf : f_X6_execute_b217 E p0 s0 s1 h = some (r, h')) : zW p l e R s m args below meth c D B0 2 (zEnd D B0 R below args s (zoI r) h') h 217 [(0, .ref p0)] [.int s1, .int s0] := by
  unfold f_X6_execute_b217 at hf
  refine zr_iand C0 dX6_execute_217 ?_
  refine zr_istore_n (i := 1) (lv' := [(1, .int (s0 &&& s1)), (0, .ref p0)]) C0 dX6_execute_218 rfl (by decide) (by first | rfl | simp [zst1, zst2, zcat_rf]) ?_
  refine zr_aload_n C0 dX6_execute_219 rfl 1 rfl ?_
  refine zr_iconst C0 (v := 0) dX6_execute_220 (by decide) ?_
  obtain ⟨h1, e2, hf⟩ := zbind hf
  refine zr_put C0 pl_X6_50_X6 dX6_execute_221 (fun h => by cases h) rfl rfl e2 ?_
  refine zr_iload_n C0 dX6_execute_224 rfl 0 rfl ?_
  obtain ⟨_, e3, hf⟩ := zbind hf
  refine zretW hf ?_
  exact zr_iret C0 (ty := .boolean) rfl (zgd_n e3) dX6_execute_225 rfl
def f_X6_execute_b204 (E : zE) (p0 : Nat) (p1 : Int32) (h : zH) : Option (Int32 × zH) :=
  (gI h p0 1 2).bind fun x1 =>
  if x1 = 0 then (
    f_X6_execute_b217 E p0 p1 (1 : Int32) h
  ) else (
    f_X6_execute_b217 E p0 p1 (0 : Int32) h
  )
theorem w_X6_execute_b204 (C0 : zCx p l e R s m args below meth c D B0 2 "FranchiseLedgerModel" cX6_execute E 6 179 (Option.some Jvm.ClassFile.FieldType.boolean) "execute") {r : Int32} {h' : zH} {p0 : Nat} {p1 : Int32} {h : zH} (hf : f_X6_execute_b204 E p0 p1 h = some (r, h')) : zW p l e R s m args below meth c D B0 2 (zEnd D B0 R below args s (zoI r) h') h 204 [(0, .ref p0), (1, .int p1)] [] := by
  unfold f_X6_execute_b204 at hf
  refine zr_iload_n C0 dX6_execute_204 rfl 1 rfl ?_
  refine zr_aload_n C0 dX6_execute_205 rfl 0 rfl ?_
  obtain ⟨x1, e2, hf⟩ := zbind hf
  refine zr_get C0 fl_X6_50_X6 dX6_execute_206 (zgI e2) ?_
  refine zr_if_ne C0 (tgt := 216) dX6_execute_209 (by decide) (fun c3 => ?_) (fun c3 => ?_)
  · have hf := zif_f c3 hf
    refine zr_iconst C0 (v := 0) dX6_execute_216 (by decide) ?_
    refine zr_sub [0] rfl ?_
    exact w_X6_execute_b217 C0 hf
  · have hf := zif_t c3 hf
    refine zr_iconst C0 (v := 1) dX6_execute_212 (by decide) ?_
    refine zr_goto C0 (tgt := 217) dX6_execute_213 (by decide) ?_
    refine zr_sub [0] rfl ?_
    exact w_X6_execute_b217 C0 hf
def f_X6_execute_b68 (E : zE) (p0 : Nat) (s0 : Int32) (h : zH) : Option (Int32 × zH) :=
  f_X6_execute_b204 E p0 s0 h
theorem w_X6_execute_b68 (C0 : zCx p l e R s m args below meth c D B0 2 "FranchiseLedgerModel" cX6_execute E 6 179 (Option.some Jvm.ClassFile.FieldType.boolean) "execute") {r : Int32} {h' : zH} {p0 : Nat} {s0 : Int32} {h : zH} (hf : f_X6_execute_b68 E p0 s0 h = some (r, h')) : zW p l e R s m args below meth c D B0 2 (zEnd D B0 R below args s (zoI r) h') h 68 [(0, .ref p0)] [.int s0] := by
  unfold f_X6_execute_b68 at hf
  refine zr_istore_n (i := 1) (lv' := [(1, .int s0), (0, .ref p0)]) C0 dX6_execute_68 rfl (by decide) (by first | rfl | simp [zst1, zst2, zcat_rf]) ?_
  refine zr_goto C0 (tgt := 204) dX6_execute_69 (by decide) ?_
  refine zr_sub [1, 0] rfl ?_
  exact w_X6_execute_b204 C0 hf
def f_X6_execute_b106 (E : zE) (p0 : Nat) (s0 : Int32) (h : zH) : Option (Int32 × zH) :=
  f_X6_execute_b204 E p0 s0 h
theorem w_X6_execute_b106 (C0 : zCx p l e R s m args below meth c D B0 2 "FranchiseLedgerModel" cX6_execute E 6 179 (Option.some Jvm.ClassFile.FieldType.boolean) "execute") {r : Int32} {h' : zH} {p0 : Nat} {s0 : Int32} {h : zH} (hf : f_X6_execute_b106 E p0 s0 h = some (r, h')) : zW p l e R s m args below meth c D B0 2 (zEnd D B0 R below args s (zoI r) h') h 106 [(0, .ref p0)] [.int s0] := by
  unfold f_X6_execute_b106 at hf
  refine zr_istore_n (i := 1) (lv' := [(1, .int s0), (0, .ref p0)]) C0 dX6_execute_106 rfl (by decide) (by first | rfl | simp [zst1, zst2, zcat_rf]) ?_
  refine zr_goto C0 (tgt := 204) dX6_execute_107 (by decide) ?_
  refine zr_sub [1, 0] rfl ?_
  exact w_X6_execute_b204 C0 hf
def f_X6_execute_b195 (E : zE) (p0 : Nat) (s0 : Int32) (h : zH) : Option (Int32 × zH) :=
  f_X6_execute_b204 E p0 s0 h
theorem w_X6_execute_b195 (C0 : zCx p l e R s m args below meth c D B0 2 "FranchiseLedgerModel" cX6_execute E 6 179 (Option.some Jvm.ClassFile.FieldType.boolean) "execute") {r : Int32} {h' : zH} {p0 : Nat} {s0 : Int32} {h : zH} (hf : f_X6_execute_b195 E p0 s0 h = some (r, h')) : zW p l e R s m args below meth c D B0 2 (zEnd D B0 R below args s (zoI r) h') h 195 [(0, .ref p0)] [.int s0] := by
  unfold f_X6_execute_b195 at hf
  refine zr_istore_n (i := 1) (lv' := [(1, .int s0), (0, .ref p0)]) C0 dX6_execute_195 rfl (by decide) (by first | rfl | simp [zst1, zst2, zcat_rf]) ?_
  refine zr_goto C0 (tgt := 204) dX6_execute_196 (by decide) ?_
  refine zr_sub [1, 0] rfl ?_
  exact w_X6_execute_b204 C0 hf
def f_X6_execute_b184 (E : zE) (p0 : Nat) (s0 : Nat) (s1 : Int32) (s2 : Int32) (s3 : Int32) (h : zH) : Option (Int32 × zH) :=
  (cko h s0 1).bind fun _ =>
  bnd2 (f_X6_vote E s0 s1 s2 s3 h) fun x4 h2 =>
  if x4 < 0 then (
    f_X6_execute_b195 E p0 (0 : Int32) h2
  ) else (
    f_X6_execute_b195 E p0 (1 : Int32) h2
  )
theorem w_X6_execute_b184 (C0 : zCx p l e R s m args below meth c D B0 2 "FranchiseLedgerModel" cX6_execute E 6 179 (Option.some Jvm.ClassFile.FieldType.boolean) "execute") {r : Int32} {h' : zH} {p0 : Nat} {s0 : Nat} {s1 : Int32} {s2 : Int32} {s3 : Int32} {h : zH} (hf : f_X6_execute_b184 E p0 s0 s1 s2 s3 h = some (r, h')) : zW p l e R s m args below meth c D B0 2 (zEnd D B0 R below args s (zoI r) h') h 184 [(0, .ref p0)] [.int s3, .int s2, .int s1, .ref s0] := by
  unfold f_X6_execute_b184 at hf
  obtain ⟨_, e1, hf⟩ := zbind hf
  obtain ⟨x4, h2, e3, hf⟩ := zbind2 hf
  refine zr_callV_r C0 cv_X6_452_X6 rfl (zcko e1) (m_X6_vote C0.2.2.2.2.2.2.1 e3) (by decide) (by decide) rfl rfl (Nat.le_of_ble_eq_true rfl) dX6_execute_184 rfl ?_
  refine zr_if_lt C0 (tgt := 194) dX6_execute_187 (by decide) (fun c5 => ?_) (fun c5 => ?_)
  · have hf := zif_t c5 hf
    refine zr_iconst C0 (v := 0) dX6_execute_194 (by decide) ?_
    exact w_X6_execute_b195 C0 hf
  · have hf := zif_f c5 hf
    refine zr_iconst C0 (v := 1) dX6_execute_190 (by decide) ?_
    refine zr_goto C0 (tgt := 195) dX6_execute_191 (by decide) ?_
    exact w_X6_execute_b195 C0 hf
def f_X6_execute_b0 (E : zE) (p0 : Nat) (h : zH) : Option (Int32 × zH) :=
  (cko h p0 1).bind fun _ =>
  bnd2 (f_X6_entry E p0 (0 : Int32) h) fun x4 h2 =>
  if x4 = 0 then (
    (cko h2 p0 1).bind fun _ =>
    bnd2 (f_X6_entry E p0 (1 : Int32) h2) fun x9 h7 =>
    (cko h7 p0 1).bind fun _ =>
    bnd2 (f_X6_cents E p0 (2 : Int32) h7) fun x13 h11 =>
    (cko h11 p0 1).bind fun _ =>
    bnd2 (f_X6_reportSales E p0 x9 x13 h11) fun x17 h15 =>
    if x17 < (0 : Int64) then (
      f_X6_execute_b68 E p0 (0 : Int32) h15
    ) else (
      f_X6_execute_b68 E p0 (1 : Int32) h15
    )
  ) else (
  if x4 = 1 then (
    (cko h2 p0 1).bind fun _ =>
    bnd2 (f_X6_entry E p0 (1 : Int32) h2) fun x23 h21 =>
    (cko h21 p0 1).bind fun _ =>
    bnd2 (f_X6_entry E p0 (2 : Int32) h21) fun x27 h25 =>
    (cko h25 p0 1).bind fun _ =>
    bnd2 (f_X6_entry E p0 (3 : Int32) h25) fun x31 h29 =>
    (cko h29 p0 1).bind fun _ =>
    bnd2 (f_X6_cents E p0 (4 : Int32) h29) fun x35 h33 =>
    (cko h33 p0 1).bind fun _ =>
    bnd2 (f_X6_deliver E p0 x23 x27 x31 x35 h33) fun x39 h37 =>
    if x39 < (0 : Int64) then (
      f_X6_execute_b106 E p0 (0 : Int32) h37
    ) else (
      f_X6_execute_b106 E p0 (1 : Int32) h37
    )
  ) else (
  if x4 = 2 then (
    (cko h2 p0 1).bind fun _ =>
    bnd2 (f_X6_entry E p0 (1 : Int32) h2) fun x45 h43 =>
    (cko h43 p0 1).bind fun _ =>
    bnd2 (f_X6_cents E p0 (2 : Int32) h43) fun x49 h47 =>
    (cko h47 p0 1).bind fun _ =>
    bnd2 (f_X6_pay E p0 x45 x49 h47) fun x53 h51 =>
    f_X6_execute_b204 E p0 (1 : Int32) h51
  ) else (
  if x4 = 3 then (
    (cko h2 p0 1).bind fun _ =>
    bnd2 (f_X6_entry E p0 (1 : Int32) h2) fun x58 h56 =>
    (cko h56 p0 1).bind fun _ =>
    bnd2 (f_X6_cents E p0 (2 : Int32) h56) fun x62 h60 =>
    (cko h60 p0 1).bind fun _ =>
    bnd2 (f_X6_grant E p0 x58 x62 h60) fun x66 h64 =>
    f_X6_execute_b204 E p0 x66 h64
  ) else (
  if x4 = 4 then (
    (cko h2 p0 1).bind fun _ =>
    bnd2 (f_X6_cents E p0 (1 : Int32) h2) fun x71 h69 =>
    (cko h69 p0 1).bind fun _ =>
    bnd2 (f_X6_campaign E p0 x71 h69) fun x75 h73 =>
    f_X6_execute_b204 E p0 x75 h73
  ) else (
  if x4 = 5 then (
    (cko h2 p0 1).bind fun _ =>
    bnd2 (f_X6_entry E p0 (1 : Int32) h2) fun x80 h78 =>
    (cko h78 p0 1).bind fun _ =>
    bnd2 (f_X6_entry E p0 (2 : Int32) h78) fun x84 h82 =>
    (cko h82 p0 1).bind fun _ =>
    bnd2 (f_X6_entry E p0 (3 : Int32) h82) fun x88 h86 =>
    if x88 = (1 : Int32) then (
      f_X6_execute_b184 E p0 p0 x80 x84 (1 : Int32) h86
    ) else (
      f_X6_execute_b184 E p0 p0 x80 x84 (0 : Int32) h86
    )
  ) else (
    (cko h2 p0 1).bind fun _ =>
    bnd2 (f_X6_closeMonth E p0 h2) fun x93 h91 =>
    f_X6_execute_b204 E p0 (1 : Int32) h91
  ))))))
theorem w_X6_execute_b0 (C0 : zCx p l e R s m args below meth c D B0 2 "FranchiseLedgerModel" cX6_execute E 6 179 (Option.some Jvm.ClassFile.FieldType.boolean) "execute") {r : Int32} {h' : zH} {p0 : Nat} {h : zH} (hf : f_X6_execute_b0 E p0 h = some (r, h')) : zW p l e R s m args below meth c D B0 2 (zEnd D B0 R below args s (zoI r) h') h 0 [(0, .ref p0)] [] := by
  unfold f_X6_execute_b0 at hf
  refine zr_iconst C0 (v := 1) dX6_execute_0 (by decide) ?_
  refine zr_istore_n (i := 1) (lv' := [(1, .int (1 : Int32)), (0, .ref p0)]) C0 dX6_execute_1 rfl (by decide) (by first | rfl | simp [zst1, zst2, zcat_rf]) ?_
  refine zr_aload_n C0 dX6_execute_2 rfl 1 rfl ?_
  refine zr_iconst C0 (v := 0) dX6_execute_3 (by decide) ?_
  obtain ⟨_, e1, hf⟩ := zbind hf
  obtain ⟨x4, h2, e3, hf⟩ := zbind2 hf
  refine zr_callV_r C0 cv_X6_428_X6 rfl (zcko e1) (m_X6_entry C0.2.2.2.2.2.2.1 e3) (by decide) (by decide) rfl rfl (Nat.le_of_ble_eq_true rfl) dX6_execute_4 rfl ?_
  rcases Decidable.em (x4 = 0) with c5 | c5
  · have hf := zif_t c5 hf
    refine zr_tableIn C0 (v := 0) (tgt := 44) dX6_execute_7 c5 (by decide) (by decide) rfl (by decide) ?_
    refine zr_aload_n C0 dX6_execute_44 rfl 1 rfl ?_
    refine zr_aload_n C0 dX6_execute_45 rfl 1 rfl ?_
    refine zr_iconst C0 (v := 1) dX6_execute_46 (by decide) ?_
    obtain ⟨_, e6, hf⟩ := zbind hf
    obtain ⟨x9, h7, e8, hf⟩ := zbind2 hf
    refine zr_callV_r C0 cv_X6_428_X6 rfl (zcko e6) (m_X6_entry C0.2.2.2.2.2.2.1 e8) (by decide) (by decide) rfl rfl (Nat.le_of_ble_eq_true rfl) dX6_execute_47 rfl ?_
    refine zr_aload_n C0 dX6_execute_50 rfl 1 rfl ?_
    refine zr_iconst C0 (v := 2) dX6_execute_51 (by decide) ?_
    obtain ⟨_, e10, hf⟩ := zbind hf
    obtain ⟨x13, h11, e12, hf⟩ := zbind2 hf
    refine zr_callV_r C0 cv_X6_431_X6 rfl (zcko e10) (m_X6_cents C0.2.2.2.2.2.2.1 e12) (by decide) (by decide) rfl rfl (Nat.le_of_ble_eq_true rfl) dX6_execute_52 rfl ?_
    obtain ⟨_, e14, hf⟩ := zbind hf
    obtain ⟨x17, h15, e16, hf⟩ := zbind2 hf
    refine zr_callV_r C0 cv_X6_434_X6 rfl (zcko e14) (m_X6_reportSales C0.2.2.2.2.2.2.1 e16) (by decide) (by decide) rfl rfl (Nat.le_of_ble_eq_true rfl) dX6_execute_55 rfl ?_
    refine zr_lconst C0 (v := 0) dX6_execute_58 (by decide) ?_
    refine zr_lcmp C0 dX6_execute_59 ?_
    refine zr_if_lt C0 (tgt := 67) dX6_execute_60 (by decide) (fun c18 => ?_) (fun c18 => ?_)
    · have hf := zif_t (zl_lt.mp c18) hf
      refine zr_iconst C0 (v := 0) dX6_execute_67 (by decide) ?_
      refine zr_sub [1] rfl ?_
      exact w_X6_execute_b68 C0 hf
    · have hf := zif_f (zl_ltn.mp c18) hf
      refine zr_iconst C0 (v := 1) dX6_execute_63 (by decide) ?_
      refine zr_goto C0 (tgt := 68) dX6_execute_64 (by decide) ?_
      refine zr_sub [1] rfl ?_
      exact w_X6_execute_b68 C0 hf
  have hf := zif_f c5 hf
  rcases Decidable.em (x4 = 1) with c19 | c19
  · have hf := zif_t c19 hf
    refine zr_tableIn C0 (v := 1) (tgt := 72) dX6_execute_7 c19 (by decide) (by decide) rfl (by decide) ?_
    refine zr_aload_n C0 dX6_execute_72 rfl 1 rfl ?_
    refine zr_aload_n C0 dX6_execute_73 rfl 1 rfl ?_
    refine zr_iconst C0 (v := 1) dX6_execute_74 (by decide) ?_
    obtain ⟨_, e20, hf⟩ := zbind hf
    obtain ⟨x23, h21, e22, hf⟩ := zbind2 hf
    refine zr_callV_r C0 cv_X6_428_X6 rfl (zcko e20) (m_X6_entry C0.2.2.2.2.2.2.1 e22) (by decide) (by decide) rfl rfl (Nat.le_of_ble_eq_true rfl) dX6_execute_75 rfl ?_
    refine zr_aload_n C0 dX6_execute_78 rfl 1 rfl ?_
    refine zr_iconst C0 (v := 2) dX6_execute_79 (by decide) ?_
    obtain ⟨_, e24, hf⟩ := zbind hf
    obtain ⟨x27, h25, e26, hf⟩ := zbind2 hf
    refine zr_callV_r C0 cv_X6_428_X6 rfl (zcko e24) (m_X6_entry C0.2.2.2.2.2.2.1 e26) (by decide) (by decide) rfl rfl (Nat.le_of_ble_eq_true rfl) dX6_execute_80 rfl ?_
    refine zr_aload_n C0 dX6_execute_83 rfl 1 rfl ?_
    refine zr_iconst C0 (v := 3) dX6_execute_84 (by decide) ?_
    obtain ⟨_, e28, hf⟩ := zbind hf
    obtain ⟨x31, h29, e30, hf⟩ := zbind2 hf
    refine zr_callV_r C0 cv_X6_428_X6 rfl (zcko e28) (m_X6_entry C0.2.2.2.2.2.2.1 e30) (by decide) (by decide) rfl rfl (Nat.le_of_ble_eq_true rfl) dX6_execute_85 rfl ?_
    refine zr_aload_n C0 dX6_execute_88 rfl 1 rfl ?_
    refine zr_iconst C0 (v := 4) dX6_execute_89 (by decide) ?_
    obtain ⟨_, e32, hf⟩ := zbind hf
    obtain ⟨x35, h33, e34, hf⟩ := zbind2 hf
    refine zr_callV_r C0 cv_X6_431_X6 rfl (zcko e32) (m_X6_cents C0.2.2.2.2.2.2.1 e34) (by decide) (by decide) rfl rfl (Nat.le_of_ble_eq_true rfl) dX6_execute_90 rfl ?_
    obtain ⟨_, e36, hf⟩ := zbind hf
    obtain ⟨x39, h37, e38, hf⟩ := zbind2 hf
    refine zr_callV_r C0 cv_X6_437_X6 rfl (zcko e36) (m_X6_deliver C0.2.2.2.2.2.2.1 e38) (by decide) (by decide) rfl rfl (Nat.le_of_ble_eq_true rfl) dX6_execute_93 rfl ?_
    refine zr_lconst C0 (v := 0) dX6_execute_96 (by decide) ?_
    refine zr_lcmp C0 dX6_execute_97 ?_
    refine zr_if_lt C0 (tgt := 105) dX6_execute_98 (by decide) (fun c40 => ?_) (fun c40 => ?_)
    · have hf := zif_t (zl_lt.mp c40) hf
      refine zr_iconst C0 (v := 0) dX6_execute_105 (by decide) ?_
      refine zr_sub [1] rfl ?_
      exact w_X6_execute_b106 C0 hf
    · have hf := zif_f (zl_ltn.mp c40) hf
      refine zr_iconst C0 (v := 1) dX6_execute_101 (by decide) ?_
      refine zr_goto C0 (tgt := 106) dX6_execute_102 (by decide) ?_
      refine zr_sub [1] rfl ?_
      exact w_X6_execute_b106 C0 hf
  have hf := zif_f c19 hf
  rcases Decidable.em (x4 = 2) with c41 | c41
  · have hf := zif_t c41 hf
    refine zr_tableIn C0 (v := 2) (tgt := 110) dX6_execute_7 c41 (by decide) (by decide) rfl (by decide) ?_
    refine zr_aload_n C0 dX6_execute_110 rfl 1 rfl ?_
    refine zr_aload_n C0 dX6_execute_111 rfl 1 rfl ?_
    refine zr_iconst C0 (v := 1) dX6_execute_112 (by decide) ?_
    obtain ⟨_, e42, hf⟩ := zbind hf
    obtain ⟨x45, h43, e44, hf⟩ := zbind2 hf
    refine zr_callV_r C0 cv_X6_428_X6 rfl (zcko e42) (m_X6_entry C0.2.2.2.2.2.2.1 e44) (by decide) (by decide) rfl rfl (Nat.le_of_ble_eq_true rfl) dX6_execute_113 rfl ?_
    refine zr_aload_n C0 dX6_execute_116 rfl 1 rfl ?_
    refine zr_iconst C0 (v := 2) dX6_execute_117 (by decide) ?_
    obtain ⟨_, e46, hf⟩ := zbind hf
    obtain ⟨x49, h47, e48, hf⟩ := zbind2 hf
    refine zr_callV_r C0 cv_X6_431_X6 rfl (zcko e46) (m_X6_cents C0.2.2.2.2.2.2.1 e48) (by decide) (by decide) rfl rfl (Nat.le_of_ble_eq_true rfl) dX6_execute_118 rfl ?_
    obtain ⟨_, e50, hf⟩ := zbind hf
    obtain ⟨x53, h51, e52, hf⟩ := zbind2 hf
    refine zr_callV_r C0 cv_X6_441_X6 rfl (zcko e50) (m_X6_pay C0.2.2.2.2.2.2.1 e52) (by decide) (by decide) rfl rfl (Nat.le_of_ble_eq_true rfl) dX6_execute_121 rfl ?_
    refine zr_pop2_2 C0 dX6_execute_124 rfl ?_
    refine zr_goto C0 (tgt := 204) dX6_execute_125 (by decide) ?_
    refine zr_sub [1, 0] rfl ?_
    exact w_X6_execute_b204 C0 hf
  have hf := zif_f c41 hf
  rcases Decidable.em (x4 = 3) with c54 | c54
  · have hf := zif_t c54 hf
    refine zr_tableIn C0 (v := 3) (tgt := 128) dX6_execute_7 c54 (by decide) (by decide) rfl (by decide) ?_
    refine zr_aload_n C0 dX6_execute_128 rfl 1 rfl ?_
    refine zr_aload_n C0 dX6_execute_129 rfl 1 rfl ?_
    refine zr_iconst C0 (v := 1) dX6_execute_130 (by decide) ?_
    obtain ⟨_, e55, hf⟩ := zbind hf
    obtain ⟨x58, h56, e57, hf⟩ := zbind2 hf
    refine zr_callV_r C0 cv_X6_428_X6 rfl (zcko e55) (m_X6_entry C0.2.2.2.2.2.2.1 e57) (by decide) (by decide) rfl rfl (Nat.le_of_ble_eq_true rfl) dX6_execute_131 rfl ?_
    refine zr_aload_n C0 dX6_execute_134 rfl 1 rfl ?_
    refine zr_iconst C0 (v := 2) dX6_execute_135 (by decide) ?_
    obtain ⟨_, e59, hf⟩ := zbind hf
    obtain ⟨x62, h60, e61, hf⟩ := zbind2 hf
    refine zr_callV_r C0 cv_X6_431_X6 rfl (zcko e59) (m_X6_cents C0.2.2.2.2.2.2.1 e61) (by decide) (by decide) rfl rfl (Nat.le_of_ble_eq_true rfl) dX6_execute_136 rfl ?_
    obtain ⟨_, e63, hf⟩ := zbind hf
    obtain ⟨x66, h64, e65, hf⟩ := zbind2 hf
    refine zr_callV_r C0 cv_X6_444_X6 rfl (zcko e63) (m_X6_grant C0.2.2.2.2.2.2.1 e65) (by decide) (by decide) rfl rfl (Nat.le_of_ble_eq_true rfl) dX6_execute_139 rfl ?_
    refine zr_istore_n (i := 1) (lv' := [(1, .int x66), (0, .ref p0)]) C0 dX6_execute_142 rfl (by decide) (by first | rfl | simp [zst1, zst2, zcat_rf]) ?_
    refine zr_goto C0 (tgt := 204) dX6_execute_143 (by decide) ?_
    refine zr_sub [1, 0] rfl ?_
    exact w_X6_execute_b204 C0 hf
  have hf := zif_f c54 hf
  rcases Decidable.em (x4 = 4) with c67 | c67
  · have hf := zif_t c67 hf
    refine zr_tableIn C0 (v := 4) (tgt := 146) dX6_execute_7 c67 (by decide) (by decide) rfl (by decide) ?_
    refine zr_aload_n C0 dX6_execute_146 rfl 1 rfl ?_
    refine zr_aload_n C0 dX6_execute_147 rfl 1 rfl ?_
    refine zr_iconst C0 (v := 1) dX6_execute_148 (by decide) ?_
    obtain ⟨_, e68, hf⟩ := zbind hf
    obtain ⟨x71, h69, e70, hf⟩ := zbind2 hf
    refine zr_callV_r C0 cv_X6_431_X6 rfl (zcko e68) (m_X6_cents C0.2.2.2.2.2.2.1 e70) (by decide) (by decide) rfl rfl (Nat.le_of_ble_eq_true rfl) dX6_execute_149 rfl ?_
    obtain ⟨_, e72, hf⟩ := zbind hf
    obtain ⟨x75, h73, e74, hf⟩ := zbind2 hf
    refine zr_callV_r C0 cv_X6_448_X6 rfl (zcko e72) (m_X6_campaign C0.2.2.2.2.2.2.1 e74) (by decide) (by decide) rfl rfl (Nat.le_of_ble_eq_true rfl) dX6_execute_152 rfl ?_
    refine zr_istore_n (i := 1) (lv' := [(1, .int x75), (0, .ref p0)]) C0 dX6_execute_155 rfl (by decide) (by first | rfl | simp [zst1, zst2, zcat_rf]) ?_
    refine zr_goto C0 (tgt := 204) dX6_execute_156 (by decide) ?_
    refine zr_sub [1, 0] rfl ?_
    exact w_X6_execute_b204 C0 hf
  have hf := zif_f c67 hf
  rcases Decidable.em (x4 = 5) with c76 | c76
  · have hf := zif_t c76 hf
    refine zr_tableIn C0 (v := 5) (tgt := 159) dX6_execute_7 c76 (by decide) (by decide) rfl (by decide) ?_
    refine zr_aload_n C0 dX6_execute_159 rfl 1 rfl ?_
    refine zr_aload_n C0 dX6_execute_160 rfl 1 rfl ?_
    refine zr_iconst C0 (v := 1) dX6_execute_161 (by decide) ?_
    obtain ⟨_, e77, hf⟩ := zbind hf
    obtain ⟨x80, h78, e79, hf⟩ := zbind2 hf
    refine zr_callV_r C0 cv_X6_428_X6 rfl (zcko e77) (m_X6_entry C0.2.2.2.2.2.2.1 e79) (by decide) (by decide) rfl rfl (Nat.le_of_ble_eq_true rfl) dX6_execute_162 rfl ?_
    refine zr_aload_n C0 dX6_execute_165 rfl 1 rfl ?_
    refine zr_iconst C0 (v := 2) dX6_execute_166 (by decide) ?_
    obtain ⟨_, e81, hf⟩ := zbind hf
    obtain ⟨x84, h82, e83, hf⟩ := zbind2 hf
    refine zr_callV_r C0 cv_X6_428_X6 rfl (zcko e81) (m_X6_entry C0.2.2.2.2.2.2.1 e83) (by decide) (by decide) rfl rfl (Nat.le_of_ble_eq_true rfl) dX6_execute_167 rfl ?_
    refine zr_aload_n C0 dX6_execute_170 rfl 1 rfl ?_
    refine zr_iconst C0 (v := 3) dX6_execute_171 (by decide) ?_
    obtain ⟨_, e85, hf⟩ := zbind hf
    obtain ⟨x88, h86, e87, hf⟩ := zbind2 hf
    refine zr_callV_r C0 cv_X6_428_X6 rfl (zcko e85) (m_X6_entry C0.2.2.2.2.2.2.1 e87) (by decide) (by decide) rfl rfl (Nat.le_of_ble_eq_true rfl) dX6_execute_172 rfl ?_
    refine zr_iconst C0 (v := 1) dX6_execute_175 (by decide) ?_
    refine zr_icmp_ne C0 (tgt := 183) dX6_execute_176 (by decide) (fun c89 => ?_) (fun c89 => ?_)
    · have hf := zif_f c89 hf
      refine zr_iconst C0 (v := 0) dX6_execute_183 (by decide) ?_
      refine zr_sub [1] rfl ?_
      exact w_X6_execute_b184 C0 hf
    · have hf := zif_t c89 hf
      refine zr_iconst C0 (v := 1) dX6_execute_179 (by decide) ?_
      refine zr_goto C0 (tgt := 184) dX6_execute_180 (by decide) ?_
      refine zr_sub [1] rfl ?_
      exact w_X6_execute_b184 C0 hf
  have hf := zif_f c76 hf
  refine zr_tableOut C0 (tgt := 199) dX6_execute_7 ?_ (by decide) ?_
  · have n0 := lv_neT (a := 0) c5 rfl; have n1 := lv_neT (a := 1) c19 rfl; have n2 := lv_neT (a := 2) c41 rfl; have n3 := lv_neT (a := 3) c54 rfl; have n4 := lv_neT (a := 4) c67 rfl; have n5 := lv_neT (a := 5) c76 rfl; omega
  refine zr_aload_n C0 dX6_execute_199 rfl 1 rfl ?_
  obtain ⟨_, e90, hf⟩ := zbind hf
  obtain ⟨x93, h91, e92, hf⟩ := zbind2 hf
  refine zr_callV_r C0 cv_X6_456_X6 rfl (zcko e90) (m_X6_closeMonth C0.2.2.2.2.2.2.1 e92) (by decide) (by decide) rfl rfl (Nat.le_of_ble_eq_true rfl) dX6_execute_200 rfl ?_
  refine zr_pop C0 dX6_execute_203 rfl ?_
  refine zr_sub [1, 0] rfl ?_
  exact w_X6_execute_b204 C0 hf
def f_X6_execute (E : zE) (p0 : Nat) (h : zH) : Option (Int32 × zH) := f_X6_execute_b0 E p0 h
theorem m_X6_execute {l : Launch} (hst : l.stackTraces = false) {D : zD} {B0 : Nat} {E : zE} {p0 : Nat} {h h' : zH} {r : Int32} (hf : f_X6_execute E p0 h = some (r, h')) : zMet l yX6_execute (ws_ yX6_execute cX6_execute 2 (Option.some Jvm.ClassFile.FieldType.boolean)) 6 179 D B0 E [.ref p0] h (zoI r) h' := by
  unfold f_X6_execute at hf
  refine zMet_of hst (by decide +kernel) rfl rfl (Nat.le_of_ble_eq_true rfl) (fun p e R s m below meth c C0 hno => ?_)
  show zW _ _ _ _ _ _ _ _ _ _ _ _ _ _ _ _ [(0, .ref p0)] []
  exact w_X6_execute_b0 C0 hf
def f_X6_runJournal_b83 (E : zE) (p2 : Int32) (h : zH) : Option (Int32 × zH) :=
  some (p2, h)
theorem w_X6_runJournal_b83 (C0 : zCx p l e R s m args below meth c D B0 4 "FranchiseLedgerModel" cX6_runJournal E 7 200 (Option.some Jvm.ClassFile.FieldType.int) "runJournal") {r : Int32} {h' : zH} {p2 : Int32} {h : zH} (hf : f_X6_runJournal_b83 E p2 h = some (r, h')) : zW p l e R s m args below meth c D B0 4 (zEnd D B0 R below args s (zoI r) h') h 83 [(2, .int p2)] [] := by
  unfold f_X6_runJournal_b83 at hf
  refine zr_iload_n C0 dX6_runJournal_83 rfl 0 rfl ?_
  refine zretW hf ?_
  exact zr_iret C0 (ty := .int) rfl rfl dX6_runJournal_84 rfl
def f_X6_runJournal_b65 (E : zE) (k36 : Nat → Int32 → Int32 → Int32 → zH → Option (Int32 × zH)) (p0 : Nat) (p1 : Int32) (p3 : Int32) (s0 : Int32) (s1 : Int32) (h : zH) : Option (Int32 × zH) :=
  (gI h p0 1 20).bind fun x1 =>
  (pF h p0 1 20 (.int (x1 + (1 : Int32)))).bind fun h3 =>
  k36 p0 p1 (s0 + s1) (p3 + 1) h3
theorem w_X6_runJournal_b65 (C0 : zCx p l e R s m args below meth c D B0 4 "FranchiseLedgerModel" cX6_runJournal E 7 200 (Option.some Jvm.ClassFile.FieldType.int) "runJournal") {r : Int32} {h' : zH} {k36 : Nat → Int32 → Int32 → Int32 → zH → Option (Int32 × zH)} (hk36 : ∀ (p0 : Nat) (p1 : Int32) (p2 : Int32) (p3 : Int32) (h : zH), k36 p0 p1 p2 p3 h = some (r, h') → zW p l e R s m args below meth c D B0 4 (zEnd D B0 R below args s (zoI r) h') h 36 [(0, .ref p0), (1, .int p1), (2, .int p2), (3, .int p3)] []) {p0 : Nat} {p1 : Int32} {p3 : Int32} {s0 : Int32} {s1 : Int32} {h : zH} (hf : f_X6_runJournal_b65 E k36 p0 p1 p3 s0 s1 h = some (r, h')) : zW p l e R s m args below meth c D B0 4 (zEnd D B0 R below args s (zoI r) h') h 65 [(0, .ref p0), (1, .int p1), (3, .int p3)] [.int s1, .int s0] := by
  unfold f_X6_runJournal_b65 at hf
  refine zr_iadd C0 dX6_runJournal_65 ?_
  refine zr_istore_n (i := 2) (lv' := [(2, .int (s0 + s1)), (0, .ref p0), (1, .int p1), (3, .int p3)]) C0 dX6_runJournal_66 rfl (by decide) (by first | rfl | simp [zst1, zst2, zcat_rf]) ?_
  refine zr_aload_n C0 dX6_runJournal_67 rfl 1 rfl ?_
  refine zr_dup C0 dX6_runJournal_68 rfl ?_
  obtain ⟨x1, e2, hf⟩ := zbind hf
  refine zr_get C0 fl_X6_78_X6 dX6_runJournal_69 (zgI e2) ?_
  refine zr_iconst C0 (v := 1) dX6_runJournal_72 (by decide) ?_
  refine zr_iadd C0 dX6_runJournal_73 ?_
  obtain ⟨h3, e4, hf⟩ := zbind hf
  refine zr_put C0 pl_X6_78_X6 dX6_runJournal_74 (fun h => by cases h) rfl rfl e4 ?_
  refine zr_iinc (lv' := [(3, .int (p3 + 1)), (2, .int (s0 + s1)), (0, .ref p0), (1, .int p1)]) C0 dX6_runJournal_77 3 rfl rfl (by decide) (by first | rfl | simp [zst1, zst2, zcat_rf]) ?_
  refine zr_goto C0 (tgt := 36) dX6_runJournal_80 (by decide) ?_
  refine zr_sub [2, 3, 1, 0] rfl ?_
  exact hk36 _ _ _ _ _ hf
def f_X6_runJournal_l36 (E : zE) : Nat → Nat → Int32 → Int32 → Int32 → zH → Option (Int32 × zH)
  | 0, _, _, _, _, _ => none
  | n + 1, p0, p1, p2, p3, h =>
    if p1 ≤ p3 then (
      f_X6_runJournal_b83 E p2 h
    ) else (
      (gI h p0 1 20).bind fun x2 =>
      (gI h p0 1 19).bind fun x4 =>
      if x4 ≤ x2 then (
        f_X6_runJournal_b83 E p2 h
      ) else (
        (cko h p0 1).bind fun _ =>
        bnd2 (f_X6_execute E p0 h) fun x10 h8 =>
        if x10 = 0 then (
          f_X6_runJournal_b65 E (f_X6_runJournal_l36 E n) p0 p1 p3 p2 (0 : Int32) h8
        ) else (
          f_X6_runJournal_b65 E (f_X6_runJournal_l36 E n) p0 p1 p3 p2 (1 : Int32) h8
        )
      )
    )
theorem w_X6_runJournal_l36 (C0 : zCx p l e R s m args below meth c D B0 4 "FranchiseLedgerModel" cX6_runJournal E 7 200 (Option.some Jvm.ClassFile.FieldType.int) "runJournal") {r : Int32} {h' : zH} : ∀ (n : Nat) (p0 : Nat) (p1 : Int32) (p2 : Int32) (p3 : Int32) (h : zH), f_X6_runJournal_l36 E n p0 p1 p2 p3 h = some (r, h') → zW p l e R s m args below meth c D B0 4 (zEnd D B0 R below args s (zoI r) h') h 36 [(0, .ref p0), (1, .int p1), (2, .int p2), (3, .int p3)] [] := by
  intro n
  induction n with
  | zero =>
    intro p0 p1 p2 p3 h hf
    unfold f_X6_runJournal_l36 at hf
    cases hf
  | succ n ih =>
    intro p0 p1 p2 p3 h hf
    unfold f_X6_runJournal_l36 at hf
    refine zr_iload_n C0 dX6_runJournal_36 rfl 3 rfl ?_
    refine zr_iload_n C0 dX6_runJournal_37 rfl 1 rfl ?_
    refine zr_icmp_ge C0 (tgt := 83) dX6_runJournal_38 (by decide) (fun c1 => ?_) (fun c1 => ?_)
    · have hf := zif_t c1 hf
      refine zr_sub [2] rfl ?_
      exact w_X6_runJournal_b83 C0 hf
    · have hf := zif_f c1 hf
      refine zr_aload_n C0 dX6_runJournal_41 rfl 0 rfl ?_
      obtain ⟨x2, e3, hf⟩ := zbind hf
      refine zr_get C0 fl_X6_78_X6 dX6_runJournal_42 (zgI e3) ?_
      refine zr_aload_n C0 dX6_runJournal_45 rfl 0 rfl ?_
      obtain ⟨x4, e5, hf⟩ := zbind hf
      refine zr_get C0 fl_X6_75_X6 dX6_runJournal_46 (zgI e5) ?_
      refine zr_icmp_ge C0 (tgt := 83) dX6_runJournal_49 (by decide) (fun c6 => ?_) (fun c6 => ?_)
      · have hf := zif_t c6 hf
        refine zr_sub [2] rfl ?_
        exact w_X6_runJournal_b83 C0 hf
      · have hf := zif_f c6 hf
        refine zr_iload_n C0 dX6_runJournal_52 rfl 2 rfl ?_
        refine zr_aload_n C0 dX6_runJournal_53 rfl 0 rfl ?_
        obtain ⟨_, e7, hf⟩ := zbind hf
        obtain ⟨x10, h8, e9, hf⟩ := zbind2 hf
        refine zr_callV_r C0 cv_X6_461_X6 rfl (zcko e7) (m_X6_execute C0.2.2.2.2.2.2.1 e9) (by decide) (by decide) rfl rfl (Nat.le_of_ble_eq_true rfl) dX6_runJournal_54 rfl ?_
        refine zr_if_eq C0 (tgt := 64) dX6_runJournal_57 (by decide) (fun c11 => ?_) (fun c11 => ?_)
        · have hf := zif_t c11 hf
          refine zr_iconst C0 (v := 0) dX6_runJournal_64 (by decide) ?_
          refine zr_sub [0, 1, 3] rfl ?_
          exact w_X6_runJournal_b65 C0 ih hf
        · have hf := zif_f c11 hf
          refine zr_iconst C0 (v := 1) dX6_runJournal_60 (by decide) ?_
          refine zr_goto C0 (tgt := 65) dX6_runJournal_61 (by decide) ?_
          refine zr_sub [0, 1, 3] rfl ?_
          exact w_X6_runJournal_b65 C0 ih hf
def f_X6_runJournal_b23 (E : zE) (p0 : Nat) (p1 : Int32) (s0 : Nat) (s1 : Int32) (h : zH) : Option (Int32 × zH) :=
  (cko h s0 1).bind fun _ =>
  bnd2 (f_X6_throwsIf E s0 s1 (1 : Int32) h) fun x4 h2 =>
  if x4 = 0 then (
    f_X6_runJournal_l36 E E.1 p0 p1 (0 : Int32) (0 : Int32) h2
  ) else (
    some ((0 : Int32), h2)
  )
theorem w_X6_runJournal_b23 (C0 : zCx p l e R s m args below meth c D B0 4 "FranchiseLedgerModel" cX6_runJournal E 7 200 (Option.some Jvm.ClassFile.FieldType.int) "runJournal") {r : Int32} {h' : zH} {p0 : Nat} {p1 : Int32} {s0 : Nat} {s1 : Int32} {h : zH} (hf : f_X6_runJournal_b23 E p0 p1 s0 s1 h = some (r, h')) : zW p l e R s m args below meth c D B0 4 (zEnd D B0 R below args s (zoI r) h') h 23 [(0, .ref p0), (1, .int p1)] [.int s1, .ref s0] := by
  unfold f_X6_runJournal_b23 at hf
  refine zr_iconst C0 (v := 1) dX6_runJournal_23 (by decide) ?_
  obtain ⟨_, e1, hf⟩ := zbind hf
  obtain ⟨x4, h2, e3, hf⟩ := zbind2 hf
  refine zr_callV_r C0 cv_X6_81_X6 rfl (zcko e1) (m_X6_throwsIf C0.2.2.2.2.2.2.1 e3) (by decide) (by decide) rfl rfl (Nat.le_of_ble_eq_true rfl) dX6_runJournal_24 rfl ?_
  refine zr_if_eq C0 (tgt := 32) dX6_runJournal_27 (by decide) (fun c5 => ?_) (fun c5 => ?_)
  · have hf := zif_t c5 hf
    refine zr_iconst C0 (v := 0) dX6_runJournal_32 (by decide) ?_
    refine zr_istore_n (i := 2) (lv' := [(2, .int (0 : Int32)), (0, .ref p0), (1, .int p1)]) C0 dX6_runJournal_33 rfl (by decide) (by first | rfl | simp [zst1, zst2, zcat_rf]) ?_
    refine zr_iconst C0 (v := 0) dX6_runJournal_34 (by decide) ?_
    refine zr_istore_n (i := 3) (lv' := [(3, .int (0 : Int32)), (2, .int (0 : Int32)), (0, .ref p0), (1, .int p1)]) C0 dX6_runJournal_35 rfl (by decide) (by first | rfl | simp [zst1, zst2, zcat_rf]) ?_
    refine zr_sub [2, 3, 1, 0] rfl ?_
    exact w_X6_runJournal_l36 C0 _ _ _ _ _ _ hf
  · have hf := zif_f c5 hf
    refine zr_iconst C0 (v := 0) dX6_runJournal_30 (by decide) ?_
    refine zretW hf ?_
    exact zr_iret C0 (ty := .int) rfl rfl dX6_runJournal_31 rfl
def f_X6_runJournal_b0 (E : zE) (p0 : Nat) (p1 : Int32) (h : zH) : Option (Int32 × zH) :=
  (pF h p0 1 2 (.int (0 : Int32))).bind fun h1 =>
  bnd2 (f_X6_inRange E (p1.toInt64) (1 : Int64) (40 : Int64) h1) fun x5 h3 =>
  if x5 = 0 then (
    f_X6_runJournal_b23 E p0 p1 p0 (1 : Int32) h3
  ) else (
    f_X6_runJournal_b23 E p0 p1 p0 (0 : Int32) h3
  )
theorem w_X6_runJournal_b0 (C0 : zCx p l e R s m args below meth c D B0 4 "FranchiseLedgerModel" cX6_runJournal E 7 200 (Option.some Jvm.ClassFile.FieldType.int) "runJournal") {r : Int32} {h' : zH} {p0 : Nat} {p1 : Int32} {h : zH} (hf : f_X6_runJournal_b0 E p0 p1 h = some (r, h')) : zW p l e R s m args below meth c D B0 4 (zEnd D B0 R below args s (zoI r) h') h 0 [(0, .ref p0), (1, .int p1)] [] := by
  unfold f_X6_runJournal_b0 at hf
  refine zr_aload_n C0 dX6_runJournal_0 rfl 0 rfl ?_
  refine zr_iconst C0 (v := 0) dX6_runJournal_1 (by decide) ?_
  obtain ⟨h1, e2, hf⟩ := zbind hf
  refine zr_put C0 pl_X6_50_X6 dX6_runJournal_2 (fun h => by cases h) rfl rfl e2 ?_
  refine zr_aload_n C0 dX6_runJournal_5 rfl 0 rfl ?_
  refine zr_iload_n C0 dX6_runJournal_6 rfl 1 rfl ?_
  refine zr_i2l C0 dX6_runJournal_7 ?_
  refine zr_lconst C0 (v := 1) dX6_runJournal_8 (by decide) ?_
  refine zr_ldc2 C0 (v := 40) q3211 dX6_runJournal_9 ?_
  obtain ⟨x5, h3, e4, hf⟩ := zbind2 hf
  refine zr_callS_r C0 cv_X6_53 (m_X6_inRange C0.2.2.2.2.2.2.1 e4) (by decide) (by decide) rfl rfl (Nat.le_of_ble_eq_true rfl) dX6_runJournal_12 rfl ?_
  refine zr_if_ne C0 (tgt := 22) dX6_runJournal_15 (by decide) (fun c6 => ?_) (fun c6 => ?_)
  · have hf := zif_f c6 hf
    refine zr_iconst C0 (v := 0) dX6_runJournal_22 (by decide) ?_
    exact w_X6_runJournal_b23 C0 hf
  · have hf := zif_t c6 hf
    refine zr_iconst C0 (v := 1) dX6_runJournal_18 (by decide) ?_
    refine zr_goto C0 (tgt := 23) dX6_runJournal_19 (by decide) ?_
    exact w_X6_runJournal_b23 C0 hf
def f_X6_runJournal (E : zE) (p0 : Nat) (p1 : Int32) (h : zH) : Option (Int32 × zH) := f_X6_runJournal_b0 E p0 p1 h
theorem m_X6_runJournal {l : Launch} (hst : l.stackTraces = false) {D : zD} {B0 : Nat} {E : zE} {p0 : Nat} {p1 : Int32} {h h' : zH} {r : Int32} (hf : f_X6_runJournal E p0 p1 h = some (r, h')) : zMet l yX6_runJournal (ws_ yX6_runJournal cX6_runJournal 4 (Option.some Jvm.ClassFile.FieldType.int)) 7 200 D B0 E [.ref p0, .int p1] h (zoI r) h' := by
  unfold f_X6_runJournal at hf
  refine zMet_of hst (by decide +kernel) rfl rfl (Nat.le_of_ble_eq_true rfl) (fun p e R s m below meth c C0 hno => ?_)
  show zW _ _ _ _ _ _ _ _ _ _ _ _ _ _ _ _ [(0, .ref p0), (1, .int p1)] []
  exact w_X6_runJournal_b0 C0 hf
def f_X6_find_b89 (E : zE) (s0 : Int32) (h : zH) : Option (Int32 × zH) :=
  some (s0, h)
theorem w_X6_find_b89 (C0 : zCx p l e R s m args below meth c D B0 5 "FranchiseLedgerModel" cX6_find E 3 105 (Option.some Jvm.ClassFile.FieldType.int) "find") {r : Int32} {h' : zH} {s0 : Int32} {h : zH} (hf : f_X6_find_b89 E s0 h = some (r, h')) : zW p l e R s m args below meth c D B0 5 (zEnd D B0 R below args s (zoI r) h') h 89 [] [.int s0] := by
  unfold f_X6_find_b89 at hf
  refine zretW hf ?_
  exact zr_iret C0 (ty := .int) rfl rfl dX6_find_89 rfl
def f_X6_find_b70 (E : zE) (p0 : Nat) (p1 : Int64) (p3 : Int32) (h : zH) : Option (Int32 × zH) :=
  (pF h p0 1 9 (.int (0 : Int32))).bind fun h1 =>
  if p3 = 0 then (
    f_X6_find_b89 E (-1 : Int32) h1
  ) else (
    (cko h1 p0 1).bind fun _ =>
    bnd2 (f_X6_named E p0 (0 : Int32) p1 h1) fun x7 h5 =>
    f_X6_find_b89 E x7 h5
  )
theorem w_X6_find_b70 (C0 : zCx p l e R s m args below meth c D B0 5 "FranchiseLedgerModel" cX6_find E 3 105 (Option.some Jvm.ClassFile.FieldType.int) "find") {r : Int32} {h' : zH} {p0 : Nat} {p1 : Int64} {p3 : Int32} {h : zH} (hf : f_X6_find_b70 E p0 p1 p3 h = some (r, h')) : zW p l e R s m args below meth c D B0 5 (zEnd D B0 R below args s (zoI r) h') h 70 [(0, .ref p0), (1, .long p1), (3, .int p3)] [] := by
  unfold f_X6_find_b70 at hf
  refine zr_aload_n C0 dX6_find_70 rfl 0 rfl ?_
  refine zr_iconst C0 (v := 0) dX6_find_71 (by decide) ?_
  obtain ⟨h1, e2, hf⟩ := zbind hf
  refine zr_put C0 pl_X6_296_X6 dX6_find_72 (fun h => by cases h) rfl rfl e2 ?_
  refine zr_iload_n C0 dX6_find_75 rfl 2 rfl ?_
  refine zr_if_eq C0 (tgt := 88) dX6_find_76 (by decide) (fun c3 => ?_) (fun c3 => ?_)
  · have hf := zif_t c3 hf
    refine zr_iconst C0 (v := -1) dX6_find_88 (by decide) ?_
    refine zr_sub [] rfl ?_
    exact w_X6_find_b89 C0 hf
  · have hf := zif_f c3 hf
    refine zr_aload_n C0 dX6_find_79 rfl 0 rfl ?_
    refine zr_iconst C0 (v := 0) dX6_find_80 (by decide) ?_
    refine zr_lload_n C0 dX6_find_81 rfl 1 rfl ?_
    obtain ⟨_, e4, hf⟩ := zbind hf
    obtain ⟨x7, h5, e6, hf⟩ := zbind2 hf
    refine zr_callV_r C0 cv_X6_370_X6 rfl (zcko e4) (m_X6_named C0.2.2.2.2.2.2.1 e6) (by decide) (by decide) rfl rfl (Nat.le_of_ble_eq_true rfl) dX6_find_82 rfl ?_
    refine zr_goto C0 (tgt := 89) dX6_find_85 (by decide) ?_
    refine zr_sub [] rfl ?_
    exact w_X6_find_b89 C0 hf
def f_X6_find_l23 (E : zE) : Nat → Nat → Int64 → Int32 → Int32 → zH → Option (Int32 × zH)
  | 0, _, _, _, _, _ => none
  | n + 1, p0, p1, p3, p4, h =>
    (gI h p0 1 9).bind fun x1 =>
    if x1 ≤ p4 then (
      f_X6_find_b70 E p0 p1 p3 h
    ) else (
      if p3 = 0 then (
        f_X6_find_b70 E p0 p1 p3 h
      ) else (
        (cko h p0 1).bind fun _ =>
        bnd2 (f_X6_byteAt E p0 p4 h) fun x8 h6 =>
        bnd2 (f_X6_isLetter E x8 h6) fun x11 h9 =>
        (cko h9 p0 1).bind fun _ =>
        bnd2 (f_X6_byteAt E p0 p4 h9) fun x15 h13 =>
        f_X6_find_l23 E n p0 (((p1 * (32 : Int64)) + (x15.toInt64)) - (96 : Int64)) x11 (p4 + 1) h13
      )
    )
theorem w_X6_find_l23 (C0 : zCx p l e R s m args below meth c D B0 5 "FranchiseLedgerModel" cX6_find E 3 105 (Option.some Jvm.ClassFile.FieldType.int) "find") {r : Int32} {h' : zH} : ∀ (n : Nat) (p0 : Nat) (p1 : Int64) (p3 : Int32) (p4 : Int32) (h : zH), f_X6_find_l23 E n p0 p1 p3 p4 h = some (r, h') → zW p l e R s m args below meth c D B0 5 (zEnd D B0 R below args s (zoI r) h') h 23 [(0, .ref p0), (1, .long p1), (3, .int p3), (4, .int p4)] [] := by
  intro n
  induction n with
  | zero =>
    intro p0 p1 p3 p4 h hf
    unfold f_X6_find_l23 at hf
    cases hf
  | succ n ih =>
    intro p0 p1 p3 p4 h hf
    unfold f_X6_find_l23 at hf
    refine zr_iload C0 dX6_find_23 3 rfl ?_
    refine zr_aload_n C0 dX6_find_25 rfl 0 rfl ?_
    obtain ⟨x1, e2, hf⟩ := zbind hf
    refine zr_get C0 fl_X6_296_X6 dX6_find_26 (zgI e2) ?_
    refine zr_icmp_ge C0 (tgt := 70) dX6_find_29 (by decide) (fun c3 => ?_) (fun c3 => ?_)
    · have hf := zif_t c3 hf
      refine zr_sub [0, 1, 2] rfl ?_
      exact w_X6_find_b70 C0 hf
    · have hf := zif_f c3 hf
      refine zr_iload_n C0 dX6_find_32 rfl 2 rfl ?_
      refine zr_if_eq C0 (tgt := 70) dX6_find_33 (by decide) (fun c4 => ?_) (fun c4 => ?_)
      · have hf := zif_t c4 hf
        refine zr_sub [0, 1, 2] rfl ?_
        exact w_X6_find_b70 C0 hf
      · have hf := zif_f c4 hf
        refine zr_aload_n C0 dX6_find_36 rfl 0 rfl ?_
        refine zr_iload C0 dX6_find_37 3 rfl ?_
        obtain ⟨_, e5, hf⟩ := zbind hf
        obtain ⟨x8, h6, e7, hf⟩ := zbind2 hf
        refine zr_callV_r C0 cv_X6_316_X6 rfl (zcko e5) (m_X6_byteAt C0.2.2.2.2.2.2.1 e7) (by decide) (by decide) rfl rfl (Nat.le_of_ble_eq_true rfl) dX6_find_39 rfl ?_
        obtain ⟨x11, h9, e10, hf⟩ := zbind2 hf
        refine zr_callS_r C0 cv_X6_326 (m_X6_isLetter C0.2.2.2.2.2.2.1 e10) (by decide) (by decide) rfl rfl (Nat.le_of_ble_eq_true rfl) dX6_find_42 rfl ?_
        refine zr_istore_n (i := 3) (lv' := [(3, .int x11), (0, .ref p0), (1, .long p1), (4, .int p4)]) C0 dX6_find_45 rfl (by decide) (by first | rfl | simp [zst1, zst2, zcat_rf]) ?_
        refine zr_lload_n C0 dX6_find_46 rfl 2 rfl ?_
        refine zr_ldc2 C0 (v := 32) q3049 dX6_find_47 ?_
        refine zr_lmul C0 dX6_find_50 ?_
        refine zr_aload_n C0 dX6_find_51 rfl 1 rfl ?_
        refine zr_iload C0 dX6_find_52 3 rfl ?_
        obtain ⟨_, e12, hf⟩ := zbind hf
        obtain ⟨x15, h13, e14, hf⟩ := zbind2 hf
        refine zr_callV_r C0 cv_X6_316_X6 rfl (zcko e12) (m_X6_byteAt C0.2.2.2.2.2.2.1 e14) (by decide) (by decide) rfl rfl (Nat.le_of_ble_eq_true rfl) dX6_find_54 rfl ?_
        refine zr_i2l C0 dX6_find_57 ?_
        refine zr_ladd C0 dX6_find_58 ?_
        refine zr_ldc2 C0 (v := 96) q3048 dX6_find_59 ?_
        refine zr_lsub C0 dX6_find_62 ?_
        refine zr_lstore_n (i := 1) (lv' := [(1, .long (((p1 * (32 : Int64)) + (x15.toInt64)) - (96 : Int64))), (3, .int x11), (0, .ref p0), (4, .int p4)]) C0 dX6_find_63 rfl (by decide) (by first | rfl | simp [zst1, zst2, zcat_rf]) ?_
        refine zr_iinc (lv' := [(4, .int (p4 + 1)), (1, .long (((p1 * (32 : Int64)) + (x15.toInt64)) - (96 : Int64))), (3, .int x11), (0, .ref p0)]) C0 dX6_find_64 3 rfl rfl (by decide) (by first | rfl | simp [zst1, zst2, zcat_rf]) ?_
        refine zr_goto C0 (tgt := 23) dX6_find_67 (by decide) ?_
        refine zr_sub [3, 1, 2, 0] rfl ?_
        exact ih _ _ _ _ _ hf
def f_X6_find_b0 (E : zE) (p0 : Nat) (h : zH) : Option (Int32 × zH) :=
  (pF h p0 1 2 (.int (0 : Int32))).bind fun h1 =>
  (gI h1 p0 1 9).bind fun x3 =>
  bnd2 (f_X6_inRange E (x3.toInt64) (1 : Int64) (10 : Int64) h1) fun x7 h5 =>
  f_X6_find_l23 E E.1 p0 (0 : Int64) x7 (0 : Int32) h5
theorem w_X6_find_b0 (C0 : zCx p l e R s m args below meth c D B0 5 "FranchiseLedgerModel" cX6_find E 3 105 (Option.some Jvm.ClassFile.FieldType.int) "find") {r : Int32} {h' : zH} {p0 : Nat} {h : zH} (hf : f_X6_find_b0 E p0 h = some (r, h')) : zW p l e R s m args below meth c D B0 5 (zEnd D B0 R below args s (zoI r) h') h 0 [(0, .ref p0)] [] := by
  unfold f_X6_find_b0 at hf
  refine zr_aload_n C0 dX6_find_0 rfl 0 rfl ?_
  refine zr_iconst C0 (v := 0) dX6_find_1 (by decide) ?_
  obtain ⟨h1, e2, hf⟩ := zbind hf
  refine zr_put C0 pl_X6_50_X6 dX6_find_2 (fun h => by cases h) rfl rfl e2 ?_
  refine zr_lconst C0 (v := 0) dX6_find_5 (by decide) ?_
  refine zr_lstore_n (i := 1) (lv' := [(1, .long (0 : Int64)), (0, .ref p0)]) C0 dX6_find_6 rfl (by decide) (by first | rfl | simp [zst1, zst2, zcat_rf]) ?_
  refine zr_aload_n C0 dX6_find_7 rfl 1 rfl ?_
  obtain ⟨x3, e4, hf⟩ := zbind hf
  refine zr_get C0 fl_X6_296_X6 dX6_find_8 (zgI e4) ?_
  refine zr_i2l C0 dX6_find_11 ?_
  refine zr_lconst C0 (v := 1) dX6_find_12 (by decide) ?_
  refine zr_ldc2 C0 (v := 10) q3062 dX6_find_13 ?_
  obtain ⟨x7, h5, e6, hf⟩ := zbind2 hf
  refine zr_callS_r C0 cv_X6_53 (m_X6_inRange C0.2.2.2.2.2.2.1 e6) (by decide) (by decide) rfl rfl (Nat.le_of_ble_eq_true rfl) dX6_find_16 rfl ?_
  refine zr_istore_n (i := 3) (lv' := [(3, .int x7), (1, .long (0 : Int64)), (0, .ref p0)]) C0 dX6_find_19 rfl (by decide) (by first | rfl | simp [zst1, zst2, zcat_rf]) ?_
  refine zr_iconst C0 (v := 0) dX6_find_20 (by decide) ?_
  refine zr_istore (i := 4) (lv' := [(4, .int (0 : Int32)), (3, .int x7), (1, .long (0 : Int64)), (0, .ref p0)]) C0 dX6_find_21 (by decide) (by first | rfl | simp [zst1, zst2, zcat_rf]) ?_
  refine zr_sub [3, 2, 1, 0] rfl ?_
  exact w_X6_find_l23 C0 _ _ _ _ _ _ hf
def f_X6_find (E : zE) (p0 : Nat) (h : zH) : Option (Int32 × zH) := f_X6_find_b0 E p0 h
theorem m_X6_find {l : Launch} (hst : l.stackTraces = false) {D : zD} {B0 : Nat} {E : zE} {p0 : Nat} {h h' : zH} {r : Int32} (hf : f_X6_find E p0 h = some (r, h')) : zMet l yX6_find (ws_ yX6_find cX6_find 5 (Option.some Jvm.ClassFile.FieldType.int)) 3 105 D B0 E [.ref p0] h (zoI r) h' := by
  unfold f_X6_find at hf
  refine zMet_of hst (by decide +kernel) rfl rfl (Nat.le_of_ble_eq_true rfl) (fun p e R s m below meth c C0 hno => ?_)
  show zW _ _ _ _ _ _ _ _ _ _ _ _ _ _ _ _ [(0, .ref p0)] []
  exact w_X6_find_b0 C0 hf
end
