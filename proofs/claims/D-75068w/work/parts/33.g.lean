/-! walks by program: by the generator -/
set_option maxRecDepth 100000
section
variable {p : Program} {l : Launch} {e : Env} {R : Room} {s : State} {m : MethodId} {args : Array Value} {below : List Frame} {meth : Method} {c : Code} {D : zD} {B0 : Nat} {E : zE}

def f_X1_coverage_b82 (E : zE) (k37 : Nat → Int32 → Int32 → Int32 → Int32 → zH → Option ((Int32 ⊕ (Nat × Nat)) × zH)) (p0 : Nat) (p1 : Int32) (p2 : Int32) (p4 : Int32) (s0 : Int32) (s1 : Int32) (h : zH) : Option ((Int32 ⊕ (Nat × Nat)) × zH) :=
  k37 p0 p1 p2 (s0 + s1) (p4 + 1) h
theorem w_X1_coverage_b82 (C0 : zCx p l e R s m args below meth c D B0 5 "FranchiseLedger" cX1_coverage E 10 154 (Option.some Jvm.ClassFile.FieldType.int) "coverage") (hno : ∀ x ∈ c.exceptionTable.toList, False) {r : (Int32 ⊕ (Nat × Nat))} {h' : zH} {k37 : Nat → Int32 → Int32 → Int32 → Int32 → zH → Option ((Int32 ⊕ (Nat × Nat)) × zH)} (hk37 : ∀ (p0 : Nat) (p1 : Int32) (p2 : Int32) (p3 : Int32) (p4 : Int32) (h : zH), k37 p0 p1 p2 p3 p4 h = some (r, h') → zW p l e R s m args below meth c D B0 5 (zEnd D B0 R below args s (zoT zoI r) h') h 37 [(0, .ref p0), (1, .int p1), (2, .int p2), (3, .int p3), (4, .int p4)] []) {p0 : Nat} {p1 : Int32} {p2 : Int32} {p4 : Int32} {s0 : Int32} {s1 : Int32} {h : zH} (hf : f_X1_coverage_b82 E k37 p0 p1 p2 p4 s0 s1 h = some (r, h')) : zW p l e R s m args below meth c D B0 5 (zEnd D B0 R below args s (zoT zoI r) h') h 82 [(0, .ref p0), (1, .int p1), (2, .int p2), (4, .int p4)] [.int s1, .int s0] := by
  unfold f_X1_coverage_b82 at hf
  refine zr_iadd C0 dX1_coverage_82 ?_
  refine zr_istore_n (i := 3) (lv' := [(3, .int (s0 + s1)), (0, .ref p0), (1, .int p1), (2, .int p2), (4, .int p4)]) C0 dX1_coverage_83 rfl (by decide) (by first | rfl | simp [zst1, zst2, zcat_rf]) ?_
  refine zr_iinc (lv' := [(4, .int (p4 + 1)), (3, .int (s0 + s1)), (0, .ref p0), (1, .int p1), (2, .int p2)]) C0 dX1_coverage_84 4 rfl rfl (by decide) (by first | rfl | simp [zst1, zst2, zcat_rf]) ?_
  refine zr_goto C0 (tgt := 37) dX1_coverage_87 (by decide) ?_
  refine zr_sub [2, 3, 4, 1, 0] rfl ?_
  exact hk37 _ _ _ _ _ _ hf
def f_X1_coverage_b81 (E : zE) (k37 : Nat → Int32 → Int32 → Int32 → Int32 → zH → Option ((Int32 ⊕ (Nat × Nat)) × zH)) (p0 : Nat) (p1 : Int32) (p2 : Int32) (p4 : Int32) (s0 : Int32) (h : zH) : Option ((Int32 ⊕ (Nat × Nat)) × zH) :=
  f_X1_coverage_b82 E k37 p0 p1 p2 p4 s0 (0 : Int32) h
theorem w_X1_coverage_b81 (C0 : zCx p l e R s m args below meth c D B0 5 "FranchiseLedger" cX1_coverage E 10 154 (Option.some Jvm.ClassFile.FieldType.int) "coverage") (hno : ∀ x ∈ c.exceptionTable.toList, False) {r : (Int32 ⊕ (Nat × Nat))} {h' : zH} {k37 : Nat → Int32 → Int32 → Int32 → Int32 → zH → Option ((Int32 ⊕ (Nat × Nat)) × zH)} (hk37 : ∀ (p0 : Nat) (p1 : Int32) (p2 : Int32) (p3 : Int32) (p4 : Int32) (h : zH), k37 p0 p1 p2 p3 p4 h = some (r, h') → zW p l e R s m args below meth c D B0 5 (zEnd D B0 R below args s (zoT zoI r) h') h 37 [(0, .ref p0), (1, .int p1), (2, .int p2), (3, .int p3), (4, .int p4)] []) {p0 : Nat} {p1 : Int32} {p2 : Int32} {p4 : Int32} {s0 : Int32} {h : zH} (hf : f_X1_coverage_b81 E k37 p0 p1 p2 p4 s0 h = some (r, h')) : zW p l e R s m args below meth c D B0 5 (zEnd D B0 R below args s (zoT zoI r) h') h 81 [(0, .ref p0), (1, .int p1), (2, .int p2), (4, .int p4)] [.int s0] := by
  unfold f_X1_coverage_b81 at hf
  refine zr_iconst C0 (v := 0) dX1_coverage_81 (by decide) ?_
  exact w_X1_coverage_b82 C0 hno hk37 hf
def f_X1_coverage_l37 (E : zE) : Nat → Nat → Int32 → Int32 → Int32 → Int32 → zH → Option ((Int32 ⊕ (Nat × Nat)) × zH)
  | 0, _, _, _, _, _, _ => none
  | n + 1, p0, p1, p2, p3, p4, h =>
    if (900 : Int32) ≤ p4 then (
      some (.inl p3, h)
    ) else (
      (gR h p0 0 1).bind fun x2 =>
      (gR h x2 4 2).bind fun x4 =>
      (gR h x4 5 0).bind fun x6 =>
      (dI h x6 2 p4).bind fun x8 =>
      if x8 = p1 then (
        (gR h p0 0 1).bind fun x11 =>
        (cko h x11 4).bind fun _ =>
        bnd2 (f_X4_nearest E x11 p4 p1 h) fun x16 h14 =>
        if p2 < x16 then (
          f_X1_coverage_b81 E (f_X1_coverage_l37 E n) p0 p1 p2 p4 p3 h14
        ) else (
          f_X1_coverage_b82 E (f_X1_coverage_l37 E n) p0 p1 p2 p4 p3 (1 : Int32) h14
        )
      ) else (
        f_X1_coverage_b81 E (f_X1_coverage_l37 E n) p0 p1 p2 p4 p3 h
      )
    )
theorem w_X1_coverage_l37 (C0 : zCx p l e R s m args below meth c D B0 5 "FranchiseLedger" cX1_coverage E 10 154 (Option.some Jvm.ClassFile.FieldType.int) "coverage") (hno : ∀ x ∈ c.exceptionTable.toList, False) {r : (Int32 ⊕ (Nat × Nat))} {h' : zH} : ∀ (n : Nat) (p0 : Nat) (p1 : Int32) (p2 : Int32) (p3 : Int32) (p4 : Int32) (h : zH), f_X1_coverage_l37 E n p0 p1 p2 p3 p4 h = some (r, h') → zW p l e R s m args below meth c D B0 5 (zEnd D B0 R below args s (zoT zoI r) h') h 37 [(0, .ref p0), (1, .int p1), (2, .int p2), (3, .int p3), (4, .int p4)] [] := by
  intro n
  induction n with
  | zero =>
    intro p0 p1 p2 p3 p4 h hf
    unfold f_X1_coverage_l37 at hf
    cases hf
  | succ n ih =>
    intro p0 p1 p2 p3 p4 h hf
    unfold f_X1_coverage_l37 at hf
    refine zr_iload C0 dX1_coverage_37 4 rfl ?_
    refine zr_sipush C0 (v := 900) dX1_coverage_39 (by decide) ?_
    refine zr_icmp_ge C0 (tgt := 90) dX1_coverage_42 (by decide) (fun c1 => ?_) (fun c1 => ?_)
    · have hf := zif_t c1 hf
      refine zr_iload_n C0 dX1_coverage_90 rfl 3 rfl ?_
      refine zretW hf ?_
      exact zr_iret C0 (ty := .int) rfl rfl dX1_coverage_91 rfl
    · have hf := zif_f c1 hf
      refine zr_iload_n C0 dX1_coverage_45 rfl 3 rfl ?_
      refine zr_aload_n C0 dX1_coverage_46 rfl 0 rfl ?_
      obtain ⟨x2, e3, hf⟩ := zbind hf
      refine zr_get C0 fl_X1_39_X1 dX1_coverage_47 (zgR e3) ?_
      obtain ⟨x4, e5, hf⟩ := zbind hf
      refine zr_get C0 fl_X1_171_X4 dX1_coverage_50 (zgR e5) ?_
      obtain ⟨x6, e7, hf⟩ := zbind hf
      refine zr_get C0 fl_X1_175_X5 dX1_coverage_53 (zgR e7) ?_
      refine zr_iload C0 dX1_coverage_56 4 rfl ?_
      obtain ⟨x8, e9, hf⟩ := zbind hf
      refine zr_bald C0 dX1_coverage_58 e9 ?_
      refine zr_iload_n C0 dX1_coverage_59 rfl 1 rfl ?_
      refine zr_icmp_ne C0 (tgt := 81) dX1_coverage_60 (by decide) (fun c10 => ?_) (fun c10 => ?_)
      · have hf := zif_f c10 hf
        refine zr_sub [0, 1, 2, 4] rfl ?_
        exact w_X1_coverage_b81 C0 hno ih hf
      · have hf := zif_t c10 hf
        refine zr_aload_n C0 dX1_coverage_63 rfl 0 rfl ?_
        obtain ⟨x11, e12, hf⟩ := zbind hf
        refine zr_get C0 fl_X1_39_X1 dX1_coverage_64 (zgR e12) ?_
        refine zr_iload C0 dX1_coverage_67 4 rfl ?_
        refine zr_iload_n C0 dX1_coverage_69 rfl 1 rfl ?_
        obtain ⟨_, e13, hf⟩ := zbind hf
        obtain ⟨x16, h14, e15, hf⟩ := zbind2 hf
        refine zr_callV_r C0 cv_X1_232_X4 rfl (zcko e13) (m_X4_nearest C0.2.2.2.2.2.2.1 e15) (by decide) (by decide) rfl rfl (Nat.le_of_ble_eq_true rfl) dX1_coverage_70 rfl ?_
        refine zr_iload_n C0 dX1_coverage_73 rfl 2 rfl ?_
        refine zr_icmp_gt C0 (tgt := 81) dX1_coverage_74 (by decide) (fun c17 => ?_) (fun c17 => ?_)
        · have hf := zif_t c17 hf
          refine zr_sub [0, 1, 2, 4] rfl ?_
          exact w_X1_coverage_b81 C0 hno ih hf
        · have hf := zif_f c17 hf
          refine zr_iconst C0 (v := 1) dX1_coverage_77 (by decide) ?_
          refine zr_goto C0 (tgt := 82) dX1_coverage_78 (by decide) ?_
          refine zr_sub [0, 1, 2, 4] rfl ?_
          exact w_X1_coverage_b82 C0 hno ih hf
def f_X1_coverage_b0 (E : zE) (p0 : Nat) (p1 : Int32) (p2 : Int32) (h : zH) : Option ((Int32 ⊕ (Nat × Nat)) × zH) :=
  bnd2 (nA h 3 (1 : Int32) (.inl fun _ => 0)) fun q1 h2 =>
  (cko h2 p0 0).bind fun _ =>
  bnd2 (f_X1_isFranchisee E p0 p1 h2) fun x7 h5 =>
  (zgd .boolean x7).bind fun _ =>
  (sI h5 q1 3 (0 : Int32) x7).bind fun h9 =>
  bnd2 (f_X1_requireIndex E q1 h9) fun x13 h11 =>
  Sum.elim (fun x14 => (
    bnd2 (nA h11 3 (1 : Int32) (.inl fun _ => 0)) fun q16 h17 =>
    bnd2 (f_X1_inRange E (p2.toInt64) (0 : Int64) (58 : Int64) h17) fun x21 h19 =>
    (zgd .boolean x21).bind fun _ =>
    (sI h19 q16 3 (0 : Int32) x21).bind fun h23 =>
    bnd2 (f_X1_requireArguments E q16 h23) fun x27 h25 =>
    Sum.elim (fun x28 => (
      f_X1_coverage_l37 E E.1 p0 p1 p2 (0 : Int32) (0 : Int32) h25
    )) (fun q29 => (
      some (.inr q29, h25)
    )) x27
  )) (fun q15 => (
    some (.inr q15, h11)
  )) x13
theorem w_X1_coverage_b0 (C0 : zCx p l e R s m args below meth c D B0 5 "FranchiseLedger" cX1_coverage E 10 154 (Option.some Jvm.ClassFile.FieldType.int) "coverage") (hno : ∀ x ∈ c.exceptionTable.toList, False) {r : (Int32 ⊕ (Nat × Nat))} {h' : zH} {p0 : Nat} {p1 : Int32} {p2 : Int32} {h : zH} (hf : f_X1_coverage_b0 E p0 p1 p2 h = some (r, h')) : zW p l e R s m args below meth c D B0 5 (zEnd D B0 R below args s (zoT zoI r) h') h 0 [(0, .ref p0), (1, .int p1), (2, .int p2)] [] := by
  unfold f_X1_coverage_b0 at hf
  refine zr_iconst C0 (v := 1) dX1_coverage_0 (by decide) ?_
  obtain ⟨q1, h2, e3, hf⟩ := zbind2 hf
  refine zr_newa C0 (atype := .boolean) (t := 3) q627 rfl (by decide) (fun _ => rfl) dX1_coverage_1 e3 ?_
  refine zr_dup C0 dX1_coverage_3 rfl ?_
  refine zr_iconst C0 (v := 0) dX1_coverage_4 (by decide) ?_
  refine zr_aload_n C0 dX1_coverage_5 rfl 0 rfl ?_
  refine zr_iload_n C0 dX1_coverage_6 rfl 1 rfl ?_
  obtain ⟨_, e4, hf⟩ := zbind hf
  obtain ⟨x7, h5, e6, hf⟩ := zbind2 hf
  refine zr_callV_r C0 cv_X1_88_X1 rfl (zcko e4) (m_X1_isFranchisee C0.2.2.2.2.2.2.1 e6) (by decide) (by decide) rfl rfl (Nat.le_of_ble_eq_true rfl) dX1_coverage_7 rfl ?_
  obtain ⟨_, e8, hf⟩ := zbind hf
  obtain ⟨h9, e10, hf⟩ := zbind hf
  refine zr_zast C0 dX1_coverage_10 (zgd_b e8) e10 ?_
  obtain ⟨x13, h11, e12, hf⟩ := zbind2 hf
  rcases x13 with x14 | q15
  · have hf := zinl hf
    refine zr_callS_r C0 cv_X1_92 (m_X1_requireIndex C0.2.2.2.2.2.2.1 e12) (by decide) (by decide) rfl rfl (Nat.le_of_ble_eq_true rfl) dX1_coverage_11 rfl ?_
    refine zr_iconst C0 (v := 1) dX1_coverage_14 (by decide) ?_
    obtain ⟨q16, h17, e18, hf⟩ := zbind2 hf
    refine zr_newa C0 (atype := .boolean) (t := 3) q627 rfl (by decide) (fun _ => rfl) dX1_coverage_15 e18 ?_
    refine zr_dup C0 dX1_coverage_17 rfl ?_
    refine zr_iconst C0 (v := 0) dX1_coverage_18 (by decide) ?_
    refine zr_iload_n C0 dX1_coverage_19 rfl 2 rfl ?_
    refine zr_i2l C0 dX1_coverage_20 ?_
    refine zr_lconst C0 (v := 0) dX1_coverage_21 (by decide) ?_
    refine zr_ldc2 C0 (v := 58) q2153 dX1_coverage_22 ?_
    obtain ⟨x21, h19, e20, hf⟩ := zbind2 hf
    refine zr_callS_r C0 cv_X1_84 (m_X1_inRange C0.2.2.2.2.2.2.1 e20) (by decide) (by decide) rfl rfl (Nat.le_of_ble_eq_true rfl) dX1_coverage_25 rfl ?_
    obtain ⟨_, e22, hf⟩ := zbind hf
    obtain ⟨h23, e24, hf⟩ := zbind hf
    refine zr_zast C0 dX1_coverage_28 (zgd_b e22) e24 ?_
    obtain ⟨x27, h25, e26, hf⟩ := zbind2 hf
    rcases x27 with x28 | q29
    · have hf := zinl hf
      refine zr_callS_r C0 cv_X1_168 (m_X1_requireArguments C0.2.2.2.2.2.2.1 e26) (by decide) (by decide) rfl rfl (Nat.le_of_ble_eq_true rfl) dX1_coverage_29 rfl ?_
      refine zr_iconst C0 (v := 0) dX1_coverage_32 (by decide) ?_
      refine zr_istore_n (i := 3) (lv' := [(3, .int (0 : Int32)), (0, .ref p0), (1, .int p1), (2, .int p2)]) C0 dX1_coverage_33 rfl (by decide) (by first | rfl | simp [zst1, zst2, zcat_rf]) ?_
      refine zr_iconst C0 (v := 0) dX1_coverage_34 (by decide) ?_
      refine zr_istore (i := 4) (lv' := [(4, .int (0 : Int32)), (3, .int (0 : Int32)), (0, .ref p0), (1, .int p1), (2, .int p2)]) C0 dX1_coverage_35 (by decide) (by first | rfl | simp [zst1, zst2, zcat_rf]) ?_
      refine zr_sub [2, 3, 4, 1, 0] rfl ?_
      exact w_X1_coverage_l37 C0 hno _ _ _ _ _ _ _ hf
    · have hf := zinr hf
      refine zretW hf ?_
      exact zr_callS_t C0 cv_X1_168 (m_X1_requireArguments C0.2.2.2.2.2.2.1 e26) (by decide) (by decide) rfl rfl (Nat.le_of_ble_eq_true rfl) dX1_coverage_29 (zr_out C0 hno rfl)
  · have hf := zinr hf
    refine zretW hf ?_
    exact zr_callS_t C0 cv_X1_92 (m_X1_requireIndex C0.2.2.2.2.2.2.1 e12) (by decide) (by decide) rfl rfl (Nat.le_of_ble_eq_true rfl) dX1_coverage_11 (zr_out C0 hno rfl)
def f_X1_coverage (E : zE) (p0 : Nat) (p1 : Int32) (p2 : Int32) (h : zH) : Option ((Int32 ⊕ (Nat × Nat)) × zH) := f_X1_coverage_b0 E p0 p1 p2 h
theorem m_X1_coverage {l : Launch} (hst : l.stackTraces = false) {D : zD} {B0 : Nat} {E : zE} {p0 : Nat} {p1 : Int32} {p2 : Int32} {h h' : zH} {r : (Int32 ⊕ (Nat × Nat))} (hf : f_X1_coverage E p0 p1 p2 h = some (r, h')) : zMet l yX1_coverage (ws_ yX1_coverage cX1_coverage 5 (Option.some Jvm.ClassFile.FieldType.int)) 10 154 D B0 E [.ref p0, .int p1, .int p2] h (zoT zoI r) h' := by
  unfold f_X1_coverage at hf
  refine zMet_of hst (by decide +kernel) rfl rfl (Nat.le_of_ble_eq_true rfl) (fun p e R s m below meth c C0 hno => ?_)
  show zW _ _ _ _ _ _ _ _ _ _ _ _ _ _ _ _ [(0, .ref p0), (1, .int p1), (2, .int p2)] []
  exact w_X1_coverage_b0 C0 hno hf
def f_X1_rivalCells_b100 (E : zE) (k46 : Nat → Int32 → Int32 → Int32 → Int32 → zH → Option ((Int32 ⊕ (Nat × Nat)) × zH)) (p0 : Nat) (p1 : Int32) (p2 : Int32) (p4 : Int32) (s0 : Int32) (s1 : Int32) (h : zH) : Option ((Int32 ⊕ (Nat × Nat)) × zH) :=
  k46 p0 p1 p2 (s0 + s1) (p4 + 1) h
theorem w_X1_rivalCells_b100 (C0 : zCx p l e R s m args below meth c D B0 5 "FranchiseLedger" cX1_rivalCells E 10 154 (Option.some Jvm.ClassFile.FieldType.int) "rivalCells") (hno : ∀ x ∈ c.exceptionTable.toList, False) {r : (Int32 ⊕ (Nat × Nat))} {h' : zH} {k46 : Nat → Int32 → Int32 → Int32 → Int32 → zH → Option ((Int32 ⊕ (Nat × Nat)) × zH)} (hk46 : ∀ (p0 : Nat) (p1 : Int32) (p2 : Int32) (p3 : Int32) (p4 : Int32) (h : zH), k46 p0 p1 p2 p3 p4 h = some (r, h') → zW p l e R s m args below meth c D B0 5 (zEnd D B0 R below args s (zoT zoI r) h') h 46 [(0, .ref p0), (1, .int p1), (2, .int p2), (3, .int p3), (4, .int p4)] []) {p0 : Nat} {p1 : Int32} {p2 : Int32} {p4 : Int32} {s0 : Int32} {s1 : Int32} {h : zH} (hf : f_X1_rivalCells_b100 E k46 p0 p1 p2 p4 s0 s1 h = some (r, h')) : zW p l e R s m args below meth c D B0 5 (zEnd D B0 R below args s (zoT zoI r) h') h 100 [(0, .ref p0), (1, .int p1), (2, .int p2), (4, .int p4)] [.int s1, .int s0] := by
  unfold f_X1_rivalCells_b100 at hf
  refine zr_iadd C0 dX1_rivalCells_100 ?_
  refine zr_istore_n (i := 3) (lv' := [(3, .int (s0 + s1)), (0, .ref p0), (1, .int p1), (2, .int p2), (4, .int p4)]) C0 dX1_rivalCells_101 rfl (by decide) (by first | rfl | simp [zst1, zst2, zcat_rf]) ?_
  refine zr_iinc (lv' := [(4, .int (p4 + 1)), (3, .int (s0 + s1)), (0, .ref p0), (1, .int p1), (2, .int p2)]) C0 dX1_rivalCells_102 4 rfl rfl (by decide) (by first | rfl | simp [zst1, zst2, zcat_rf]) ?_
  refine zr_goto C0 (tgt := 46) dX1_rivalCells_105 (by decide) ?_
  refine zr_sub [2, 3, 4, 1, 0] rfl ?_
  exact hk46 _ _ _ _ _ _ hf
def f_X1_rivalCells_b99 (E : zE) (k46 : Nat → Int32 → Int32 → Int32 → Int32 → zH → Option ((Int32 ⊕ (Nat × Nat)) × zH)) (p0 : Nat) (p1 : Int32) (p2 : Int32) (p4 : Int32) (s0 : Int32) (h : zH) : Option ((Int32 ⊕ (Nat × Nat)) × zH) :=
  f_X1_rivalCells_b100 E k46 p0 p1 p2 p4 s0 (0 : Int32) h
theorem w_X1_rivalCells_b99 (C0 : zCx p l e R s m args below meth c D B0 5 "FranchiseLedger" cX1_rivalCells E 10 154 (Option.some Jvm.ClassFile.FieldType.int) "rivalCells") (hno : ∀ x ∈ c.exceptionTable.toList, False) {r : (Int32 ⊕ (Nat × Nat))} {h' : zH} {k46 : Nat → Int32 → Int32 → Int32 → Int32 → zH → Option ((Int32 ⊕ (Nat × Nat)) × zH)} (hk46 : ∀ (p0 : Nat) (p1 : Int32) (p2 : Int32) (p3 : Int32) (p4 : Int32) (h : zH), k46 p0 p1 p2 p3 p4 h = some (r, h') → zW p l e R s m args below meth c D B0 5 (zEnd D B0 R below args s (zoT zoI r) h') h 46 [(0, .ref p0), (1, .int p1), (2, .int p2), (3, .int p3), (4, .int p4)] []) {p0 : Nat} {p1 : Int32} {p2 : Int32} {p4 : Int32} {s0 : Int32} {h : zH} (hf : f_X1_rivalCells_b99 E k46 p0 p1 p2 p4 s0 h = some (r, h')) : zW p l e R s m args below meth c D B0 5 (zEnd D B0 R below args s (zoT zoI r) h') h 99 [(0, .ref p0), (1, .int p1), (2, .int p2), (4, .int p4)] [.int s0] := by
  unfold f_X1_rivalCells_b99 at hf
  refine zr_iconst C0 (v := 0) dX1_rivalCells_99 (by decide) ?_
  exact w_X1_rivalCells_b100 C0 hno hk46 hf
def f_X1_rivalCells_l46 (E : zE) : Nat → Nat → Int32 → Int32 → Int32 → Int32 → zH → Option ((Int32 ⊕ (Nat × Nat)) × zH)
  | 0, _, _, _, _, _, _ => none
  | n + 1, p0, p1, p2, p3, p4, h =>
    if (900 : Int32) ≤ p4 then (
      some (.inl p3, h)
    ) else (
      (gR h p0 0 1).bind fun x2 =>
      (gR h x2 4 2).bind fun x4 =>
      (gR h x4 5 0).bind fun x6 =>
      (dI h x6 2 p4).bind fun x8 =>
      if x8 = p1 then (
        (gR h p0 0 1).bind fun x11 =>
        (cko h x11 4).bind fun _ =>
        bnd2 (f_X4_nearest E x11 p4 p2 h) fun x16 h14 =>
        (gR h14 p0 0 1).bind fun x17 =>
        (cko h14 x17 4).bind fun _ =>
        bnd2 (f_X4_nearest E x17 p4 p1 h14) fun x22 h20 =>
        if x22 ≤ x16 then (
          f_X1_rivalCells_b99 E (f_X1_rivalCells_l46 E n) p0 p1 p2 p4 p3 h20
        ) else (
          f_X1_rivalCells_b100 E (f_X1_rivalCells_l46 E n) p0 p1 p2 p4 p3 (1 : Int32) h20
        )
      ) else (
        f_X1_rivalCells_b99 E (f_X1_rivalCells_l46 E n) p0 p1 p2 p4 p3 h
      )
    )
theorem w_X1_rivalCells_l46 (C0 : zCx p l e R s m args below meth c D B0 5 "FranchiseLedger" cX1_rivalCells E 10 154 (Option.some Jvm.ClassFile.FieldType.int) "rivalCells") (hno : ∀ x ∈ c.exceptionTable.toList, False) {r : (Int32 ⊕ (Nat × Nat))} {h' : zH} : ∀ (n : Nat) (p0 : Nat) (p1 : Int32) (p2 : Int32) (p3 : Int32) (p4 : Int32) (h : zH), f_X1_rivalCells_l46 E n p0 p1 p2 p3 p4 h = some (r, h') → zW p l e R s m args below meth c D B0 5 (zEnd D B0 R below args s (zoT zoI r) h') h 46 [(0, .ref p0), (1, .int p1), (2, .int p2), (3, .int p3), (4, .int p4)] [] := by
  intro n
  induction n with
  | zero =>
    intro p0 p1 p2 p3 p4 h hf
    unfold f_X1_rivalCells_l46 at hf
    cases hf
  | succ n ih =>
    intro p0 p1 p2 p3 p4 h hf
    unfold f_X1_rivalCells_l46 at hf
    refine zr_iload C0 dX1_rivalCells_46 4 rfl ?_
    refine zr_sipush C0 (v := 900) dX1_rivalCells_48 (by decide) ?_
    refine zr_icmp_ge C0 (tgt := 108) dX1_rivalCells_51 (by decide) (fun c1 => ?_) (fun c1 => ?_)
    · have hf := zif_t c1 hf
      refine zr_iload_n C0 dX1_rivalCells_108 rfl 3 rfl ?_
      refine zretW hf ?_
      exact zr_iret C0 (ty := .int) rfl rfl dX1_rivalCells_109 rfl
    · have hf := zif_f c1 hf
      refine zr_iload_n C0 dX1_rivalCells_54 rfl 3 rfl ?_
      refine zr_aload_n C0 dX1_rivalCells_55 rfl 0 rfl ?_
      obtain ⟨x2, e3, hf⟩ := zbind hf
      refine zr_get C0 fl_X1_39_X1 dX1_rivalCells_56 (zgR e3) ?_
      obtain ⟨x4, e5, hf⟩ := zbind hf
      refine zr_get C0 fl_X1_171_X4 dX1_rivalCells_59 (zgR e5) ?_
      obtain ⟨x6, e7, hf⟩ := zbind hf
      refine zr_get C0 fl_X1_175_X5 dX1_rivalCells_62 (zgR e7) ?_
      refine zr_iload C0 dX1_rivalCells_65 4 rfl ?_
      obtain ⟨x8, e9, hf⟩ := zbind hf
      refine zr_bald C0 dX1_rivalCells_67 e9 ?_
      refine zr_iload_n C0 dX1_rivalCells_68 rfl 1 rfl ?_
      refine zr_icmp_ne C0 (tgt := 99) dX1_rivalCells_69 (by decide) (fun c10 => ?_) (fun c10 => ?_)
      · have hf := zif_f c10 hf
        refine zr_sub [0, 1, 2, 4] rfl ?_
        exact w_X1_rivalCells_b99 C0 hno ih hf
      · have hf := zif_t c10 hf
        refine zr_aload_n C0 dX1_rivalCells_72 rfl 0 rfl ?_
        obtain ⟨x11, e12, hf⟩ := zbind hf
        refine zr_get C0 fl_X1_39_X1 dX1_rivalCells_73 (zgR e12) ?_
        refine zr_iload C0 dX1_rivalCells_76 4 rfl ?_
        refine zr_iload_n C0 dX1_rivalCells_78 rfl 2 rfl ?_
        obtain ⟨_, e13, hf⟩ := zbind hf
        obtain ⟨x16, h14, e15, hf⟩ := zbind2 hf
        refine zr_callV_r C0 cv_X1_232_X4 rfl (zcko e13) (m_X4_nearest C0.2.2.2.2.2.2.1 e15) (by decide) (by decide) rfl rfl (Nat.le_of_ble_eq_true rfl) dX1_rivalCells_79 rfl ?_
        refine zr_aload_n C0 dX1_rivalCells_82 rfl 0 rfl ?_
        obtain ⟨x17, e18, hf⟩ := zbind hf
        refine zr_get C0 fl_X1_39_X1 dX1_rivalCells_83 (zgR e18) ?_
        refine zr_iload C0 dX1_rivalCells_86 4 rfl ?_
        refine zr_iload_n C0 dX1_rivalCells_88 rfl 1 rfl ?_
        obtain ⟨_, e19, hf⟩ := zbind hf
        obtain ⟨x22, h20, e21, hf⟩ := zbind2 hf
        refine zr_callV_r C0 cv_X1_232_X4 rfl (zcko e19) (m_X4_nearest C0.2.2.2.2.2.2.1 e21) (by decide) (by decide) rfl rfl (Nat.le_of_ble_eq_true rfl) dX1_rivalCells_89 rfl ?_
        refine zr_icmp_ge C0 (tgt := 99) dX1_rivalCells_92 (by decide) (fun c23 => ?_) (fun c23 => ?_)
        · have hf := zif_t c23 hf
          refine zr_sub [0, 1, 2, 4] rfl ?_
          exact w_X1_rivalCells_b99 C0 hno ih hf
        · have hf := zif_f c23 hf
          refine zr_iconst C0 (v := 1) dX1_rivalCells_95 (by decide) ?_
          refine zr_goto C0 (tgt := 100) dX1_rivalCells_96 (by decide) ?_
          refine zr_sub [0, 1, 2, 4] rfl ?_
          exact w_X1_rivalCells_b100 C0 hno ih hf
def f_X1_rivalCells_b37 (E : zE) (p0 : Nat) (p1 : Int32) (p2 : Int32) (s0 : Nat) (s1 : Nat) (s2 : Int32) (s3 : Int32) (h : zH) : Option ((Int32 ⊕ (Nat × Nat)) × zH) :=
  (zgd .boolean s3).bind fun _ =>
  (sI h s1 3 s2 s3).bind fun h2 =>
  bnd2 (f_X1_requireArguments E s0 h2) fun x6 h4 =>
  Sum.elim (fun x7 => (
    f_X1_rivalCells_l46 E E.1 p0 p1 p2 (0 : Int32) (0 : Int32) h4
  )) (fun q8 => (
    some (.inr q8, h4)
  )) x6
theorem w_X1_rivalCells_b37 (C0 : zCx p l e R s m args below meth c D B0 5 "FranchiseLedger" cX1_rivalCells E 10 154 (Option.some Jvm.ClassFile.FieldType.int) "rivalCells") (hno : ∀ x ∈ c.exceptionTable.toList, False) {r : (Int32 ⊕ (Nat × Nat))} {h' : zH} {p0 : Nat} {p1 : Int32} {p2 : Int32} {s0 : Nat} {s1 : Nat} {s2 : Int32} {s3 : Int32} {h : zH} (hf : f_X1_rivalCells_b37 E p0 p1 p2 s0 s1 s2 s3 h = some (r, h')) : zW p l e R s m args below meth c D B0 5 (zEnd D B0 R below args s (zoT zoI r) h') h 37 [(0, .ref p0), (1, .int p1), (2, .int p2)] [.int s3, .int s2, .ref s1, .ref s0] := by
  unfold f_X1_rivalCells_b37 at hf
  obtain ⟨_, e1, hf⟩ := zbind hf
  obtain ⟨h2, e3, hf⟩ := zbind hf
  refine zr_zast C0 dX1_rivalCells_37 (zgd_b e1) e3 ?_
  obtain ⟨x6, h4, e5, hf⟩ := zbind2 hf
  rcases x6 with x7 | q8
  · have hf := zinl hf
    refine zr_callS_r C0 cv_X1_168 (m_X1_requireArguments C0.2.2.2.2.2.2.1 e5) (by decide) (by decide) rfl rfl (Nat.le_of_ble_eq_true rfl) dX1_rivalCells_38 rfl ?_
    refine zr_iconst C0 (v := 0) dX1_rivalCells_41 (by decide) ?_
    refine zr_istore_n (i := 3) (lv' := [(3, .int (0 : Int32)), (0, .ref p0), (1, .int p1), (2, .int p2)]) C0 dX1_rivalCells_42 rfl (by decide) (by first | rfl | simp [zst1, zst2, zcat_rf]) ?_
    refine zr_iconst C0 (v := 0) dX1_rivalCells_43 (by decide) ?_
    refine zr_istore (i := 4) (lv' := [(4, .int (0 : Int32)), (3, .int (0 : Int32)), (0, .ref p0), (1, .int p1), (2, .int p2)]) C0 dX1_rivalCells_44 (by decide) (by first | rfl | simp [zst1, zst2, zcat_rf]) ?_
    refine zr_sub [2, 3, 4, 1, 0] rfl ?_
    exact w_X1_rivalCells_l46 C0 hno _ _ _ _ _ _ _ hf
  · have hf := zinr hf
    refine zretW hf ?_
    exact zr_callS_t C0 cv_X1_168 (m_X1_requireArguments C0.2.2.2.2.2.2.1 e5) (by decide) (by decide) rfl rfl (Nat.le_of_ble_eq_true rfl) dX1_rivalCells_38 (zr_out C0 hno rfl)
def f_X1_rivalCells_b0 (E : zE) (p0 : Nat) (p1 : Int32) (p2 : Int32) (h : zH) : Option ((Int32 ⊕ (Nat × Nat)) × zH) :=
  bnd2 (nA h 3 (2 : Int32) (.inl fun _ => 0)) fun q1 h2 =>
  (cko h2 p0 0).bind fun _ =>
  bnd2 (f_X1_isFranchisee E p0 p1 h2) fun x7 h5 =>
  (zgd .boolean x7).bind fun _ =>
  (sI h5 q1 3 (0 : Int32) x7).bind fun h9 =>
  (cko h9 p0 0).bind fun _ =>
  bnd2 (f_X1_isFranchisee E p0 p2 h9) fun x14 h12 =>
  (zgd .boolean x14).bind fun _ =>
  (sI h12 q1 3 (1 : Int32) x14).bind fun h16 =>
  bnd2 (f_X1_requireIndex E q1 h16) fun x20 h18 =>
  Sum.elim (fun x21 => (
    bnd2 (nA h18 3 (1 : Int32) (.inl fun _ => 0)) fun q23 h24 =>
    if p1 = p2 then (
      f_X1_rivalCells_b37 E p0 p1 p2 q23 q23 (0 : Int32) (0 : Int32) h24
    ) else (
      f_X1_rivalCells_b37 E p0 p1 p2 q23 q23 (0 : Int32) (1 : Int32) h24
    )
  )) (fun q22 => (
    some (.inr q22, h18)
  )) x20
theorem w_X1_rivalCells_b0 (C0 : zCx p l e R s m args below meth c D B0 5 "FranchiseLedger" cX1_rivalCells E 10 154 (Option.some Jvm.ClassFile.FieldType.int) "rivalCells") (hno : ∀ x ∈ c.exceptionTable.toList, False) {r : (Int32 ⊕ (Nat × Nat))} {h' : zH} {p0 : Nat} {p1 : Int32} {p2 : Int32} {h : zH} (hf : f_X1_rivalCells_b0 E p0 p1 p2 h = some (r, h')) : zW p l e R s m args below meth c D B0 5 (zEnd D B0 R below args s (zoT zoI r) h') h 0 [(0, .ref p0), (1, .int p1), (2, .int p2)] [] := by
  unfold f_X1_rivalCells_b0 at hf
  refine zr_iconst C0 (v := 2) dX1_rivalCells_0 (by decide) ?_
  obtain ⟨q1, h2, e3, hf⟩ := zbind2 hf
  refine zr_newa C0 (atype := .boolean) (t := 3) q627 rfl (by decide) (fun _ => rfl) dX1_rivalCells_1 e3 ?_
  refine zr_dup C0 dX1_rivalCells_3 rfl ?_
  refine zr_iconst C0 (v := 0) dX1_rivalCells_4 (by decide) ?_
  refine zr_aload_n C0 dX1_rivalCells_5 rfl 0 rfl ?_
  refine zr_iload_n C0 dX1_rivalCells_6 rfl 1 rfl ?_
  obtain ⟨_, e4, hf⟩ := zbind hf
  obtain ⟨x7, h5, e6, hf⟩ := zbind2 hf
  refine zr_callV_r C0 cv_X1_88_X1 rfl (zcko e4) (m_X1_isFranchisee C0.2.2.2.2.2.2.1 e6) (by decide) (by decide) rfl rfl (Nat.le_of_ble_eq_true rfl) dX1_rivalCells_7 rfl ?_
  obtain ⟨_, e8, hf⟩ := zbind hf
  obtain ⟨h9, e10, hf⟩ := zbind hf
  refine zr_zast C0 dX1_rivalCells_10 (zgd_b e8) e10 ?_
  refine zr_dup C0 dX1_rivalCells_11 rfl ?_
  refine zr_iconst C0 (v := 1) dX1_rivalCells_12 (by decide) ?_
  refine zr_aload_n C0 dX1_rivalCells_13 rfl 0 rfl ?_
  refine zr_iload_n C0 dX1_rivalCells_14 rfl 2 rfl ?_
  obtain ⟨_, e11, hf⟩ := zbind hf
  obtain ⟨x14, h12, e13, hf⟩ := zbind2 hf
  refine zr_callV_r C0 cv_X1_88_X1 rfl (zcko e11) (m_X1_isFranchisee C0.2.2.2.2.2.2.1 e13) (by decide) (by decide) rfl rfl (Nat.le_of_ble_eq_true rfl) dX1_rivalCells_15 rfl ?_
  obtain ⟨_, e15, hf⟩ := zbind hf
  obtain ⟨h16, e17, hf⟩ := zbind hf
  refine zr_zast C0 dX1_rivalCells_18 (zgd_b e15) e17 ?_
  obtain ⟨x20, h18, e19, hf⟩ := zbind2 hf
  rcases x20 with x21 | q22
  · have hf := zinl hf
    refine zr_callS_r C0 cv_X1_92 (m_X1_requireIndex C0.2.2.2.2.2.2.1 e19) (by decide) (by decide) rfl rfl (Nat.le_of_ble_eq_true rfl) dX1_rivalCells_19 rfl ?_
    refine zr_iconst C0 (v := 1) dX1_rivalCells_22 (by decide) ?_
    obtain ⟨q23, h24, e25, hf⟩ := zbind2 hf
    refine zr_newa C0 (atype := .boolean) (t := 3) q627 rfl (by decide) (fun _ => rfl) dX1_rivalCells_23 e25 ?_
    refine zr_dup C0 dX1_rivalCells_25 rfl ?_
    refine zr_iconst C0 (v := 0) dX1_rivalCells_26 (by decide) ?_
    refine zr_iload_n C0 dX1_rivalCells_27 rfl 1 rfl ?_
    refine zr_iload_n C0 dX1_rivalCells_28 rfl 2 rfl ?_
    refine zr_icmp_eq C0 (tgt := 36) dX1_rivalCells_29 (by decide) (fun c26 => ?_) (fun c26 => ?_)
    · have hf := zif_t c26 hf
      refine zr_iconst C0 (v := 0) dX1_rivalCells_36 (by decide) ?_
      exact w_X1_rivalCells_b37 C0 hno hf
    · have hf := zif_f c26 hf
      refine zr_iconst C0 (v := 1) dX1_rivalCells_32 (by decide) ?_
      refine zr_goto C0 (tgt := 37) dX1_rivalCells_33 (by decide) ?_
      exact w_X1_rivalCells_b37 C0 hno hf
  · have hf := zinr hf
    refine zretW hf ?_
    exact zr_callS_t C0 cv_X1_92 (m_X1_requireIndex C0.2.2.2.2.2.2.1 e19) (by decide) (by decide) rfl rfl (Nat.le_of_ble_eq_true rfl) dX1_rivalCells_19 (zr_out C0 hno rfl)
def f_X1_rivalCells (E : zE) (p0 : Nat) (p1 : Int32) (p2 : Int32) (h : zH) : Option ((Int32 ⊕ (Nat × Nat)) × zH) := f_X1_rivalCells_b0 E p0 p1 p2 h
theorem m_X1_rivalCells {l : Launch} (hst : l.stackTraces = false) {D : zD} {B0 : Nat} {E : zE} {p0 : Nat} {p1 : Int32} {p2 : Int32} {h h' : zH} {r : (Int32 ⊕ (Nat × Nat))} (hf : f_X1_rivalCells E p0 p1 p2 h = some (r, h')) : zMet l yX1_rivalCells (ws_ yX1_rivalCells cX1_rivalCells 5 (Option.some Jvm.ClassFile.FieldType.int)) 10 154 D B0 E [.ref p0, .int p1, .int p2] h (zoT zoI r) h' := by
  unfold f_X1_rivalCells at hf
  refine zMet_of hst (by decide +kernel) rfl rfl (Nat.le_of_ble_eq_true rfl) (fun p e R s m below meth c C0 hno => ?_)
  show zW _ _ _ _ _ _ _ _ _ _ _ _ _ _ _ _ [(0, .ref p0), (1, .int p1), (2, .int p2)] []
  exact w_X1_rivalCells_b0 C0 hno hf
def f_X1_difference_b65 (E : zE) (k6 : Nat → Int32 → Int32 → Int32 → Int32 → Int32 → zH → Option (Int32 × zH)) (p0 : Nat) (p1 : Int32) (p2 : Int32) (p3 : Int32) (p4 : Int32) (p5 : Int32) (h : zH) : Option (Int32 × zH) :=
  k6 p0 p1 p2 p3 p4 (p5 + 1) h
theorem w_X1_difference_b65 (C0 : zCx p l e R s m args below meth c D B0 6 "FranchiseLedger" cX1_difference E 2 80 (Option.some Jvm.ClassFile.FieldType.int) "difference") {r : Int32} {h' : zH} {k6 : Nat → Int32 → Int32 → Int32 → Int32 → Int32 → zH → Option (Int32 × zH)} (hk6 : ∀ (p0 : Nat) (p1 : Int32) (p2 : Int32) (p3 : Int32) (p4 : Int32) (p5 : Int32) (h : zH), k6 p0 p1 p2 p3 p4 p5 h = some (r, h') → zW p l e R s m args below meth c D B0 6 (zEnd D B0 R below args s (zoI r) h') h 6 [(0, .ref p0), (1, .int p1), (2, .int p2), (3, .int p3), (4, .int p4), (5, .int p5)] []) {p0 : Nat} {p1 : Int32} {p2 : Int32} {p3 : Int32} {p4 : Int32} {p5 : Int32} {h : zH} (hf : f_X1_difference_b65 E k6 p0 p1 p2 p3 p4 p5 h = some (r, h')) : zW p l e R s m args below meth c D B0 6 (zEnd D B0 R below args s (zoI r) h') h 65 [(0, .ref p0), (1, .int p1), (2, .int p2), (3, .int p3), (4, .int p4), (5, .int p5)] [] := by
  unfold f_X1_difference_b65 at hf
  refine zr_iinc (lv' := [(5, .int (p5 + 1)), (0, .ref p0), (1, .int p1), (2, .int p2), (3, .int p3), (4, .int p4)]) C0 dX1_difference_65 5 rfl rfl (by decide) (by first | rfl | simp [zst1, zst2, zcat_rf]) ?_
  refine zr_goto C0 (tgt := 6) dX1_difference_68 (by decide) ?_
  refine zr_sub [1, 2, 3, 4, 5, 0] rfl ?_
  exact hk6 _ _ _ _ _ _ _ hf
def f_X1_difference_b62 (E : zE) (k6 : Nat → Int32 → Int32 → Int32 → Int32 → Int32 → zH → Option (Int32 × zH)) (p0 : Nat) (p1 : Int32) (p2 : Int32) (p3 : Int32) (p5 : Int32) (s0 : Int32) (s1 : Int32) (h : zH) : Option (Int32 × zH) :=
  f_X1_difference_b65 E k6 p0 p1 p2 p3 (s0 + s1) p5 h
theorem w_X1_difference_b62 (C0 : zCx p l e R s m args below meth c D B0 6 "FranchiseLedger" cX1_difference E 2 80 (Option.some Jvm.ClassFile.FieldType.int) "difference") {r : Int32} {h' : zH} {k6 : Nat → Int32 → Int32 → Int32 → Int32 → Int32 → zH → Option (Int32 × zH)} (hk6 : ∀ (p0 : Nat) (p1 : Int32) (p2 : Int32) (p3 : Int32) (p4 : Int32) (p5 : Int32) (h : zH), k6 p0 p1 p2 p3 p4 p5 h = some (r, h') → zW p l e R s m args below meth c D B0 6 (zEnd D B0 R below args s (zoI r) h') h 6 [(0, .ref p0), (1, .int p1), (2, .int p2), (3, .int p3), (4, .int p4), (5, .int p5)] []) {p0 : Nat} {p1 : Int32} {p2 : Int32} {p3 : Int32} {p5 : Int32} {s0 : Int32} {s1 : Int32} {h : zH} (hf : f_X1_difference_b62 E k6 p0 p1 p2 p3 p5 s0 s1 h = some (r, h')) : zW p l e R s m args below meth c D B0 6 (zEnd D B0 R below args s (zoI r) h') h 62 [(0, .ref p0), (1, .int p1), (2, .int p2), (3, .int p3), (5, .int p5)] [.int s1, .int s0] := by
  unfold f_X1_difference_b62 at hf
  refine zr_iadd C0 dX1_difference_62 ?_
  refine zr_istore (i := 4) (lv' := [(4, .int (s0 + s1)), (0, .ref p0), (1, .int p1), (2, .int p2), (3, .int p3), (5, .int p5)]) C0 dX1_difference_63 (by decide) (by first | rfl | simp [zst1, zst2, zcat_rf]) ?_
  refine zr_sub [1, 2, 3, 4, 0, 5] rfl ?_
  exact w_X1_difference_b65 C0 hk6 hf
def f_X1_difference_b53 (E : zE) (k6 : Nat → Int32 → Int32 → Int32 → Int32 → Int32 → zH → Option (Int32 × zH)) (p0 : Nat) (p1 : Int32) (p2 : Int32) (p3 : Int32) (p5 : Int32) (s0 : Int32) (s1 : Int32) (h : zH) : Option (Int32 × zH) :=
  if p2 ≤ s1 then (
    f_X1_difference_b62 E k6 p0 p1 p2 p3 p5 s0 (-1 : Int32) h
  ) else (
    f_X1_difference_b62 E k6 p0 p1 p2 p3 p5 s0 (1 : Int32) h
  )
theorem w_X1_difference_b53 (C0 : zCx p l e R s m args below meth c D B0 6 "FranchiseLedger" cX1_difference E 2 80 (Option.some Jvm.ClassFile.FieldType.int) "difference") {r : Int32} {h' : zH} {k6 : Nat → Int32 → Int32 → Int32 → Int32 → Int32 → zH → Option (Int32 × zH)} (hk6 : ∀ (p0 : Nat) (p1 : Int32) (p2 : Int32) (p3 : Int32) (p4 : Int32) (p5 : Int32) (h : zH), k6 p0 p1 p2 p3 p4 p5 h = some (r, h') → zW p l e R s m args below meth c D B0 6 (zEnd D B0 R below args s (zoI r) h') h 6 [(0, .ref p0), (1, .int p1), (2, .int p2), (3, .int p3), (4, .int p4), (5, .int p5)] []) {p0 : Nat} {p1 : Int32} {p2 : Int32} {p3 : Int32} {p5 : Int32} {s0 : Int32} {s1 : Int32} {h : zH} (hf : f_X1_difference_b53 E k6 p0 p1 p2 p3 p5 s0 s1 h = some (r, h')) : zW p l e R s m args below meth c D B0 6 (zEnd D B0 R below args s (zoI r) h') h 53 [(0, .ref p0), (1, .int p1), (2, .int p2), (3, .int p3), (5, .int p5)] [.int s1, .int s0] := by
  unfold f_X1_difference_b53 at hf
  refine zr_iload_n C0 dX1_difference_53 rfl 2 rfl ?_
  refine zr_icmp_ge C0 (tgt := 61) dX1_difference_54 (by decide) (fun c1 => ?_) (fun c1 => ?_)
  · have hf := zif_t c1 hf
    refine zr_iconst C0 (v := -1) dX1_difference_61 (by decide) ?_
    exact w_X1_difference_b62 C0 hk6 hf
  · have hf := zif_f c1 hf
    refine zr_iconst C0 (v := 1) dX1_difference_57 (by decide) ?_
    refine zr_goto C0 (tgt := 62) dX1_difference_58 (by decide) ?_
    exact w_X1_difference_b62 C0 hk6 hf
def f_X1_difference_l6 (E : zE) : Nat → Nat → Int32 → Int32 → Int32 → Int32 → Int32 → zH → Option (Int32 × zH)
  | 0, _, _, _, _, _, _, _ => none
  | n + 1, p0, p1, p2, p3, p4, p5, h =>
    if (900 : Int32) ≤ p5 then (
      bnd2 (f_J12_abs E p4 h) fun x4 h2 =>
      some (x4, h2)
    ) else (
      (gR h p0 0 1).bind fun x5 =>
      (gR h x5 4 2).bind fun x7 =>
      (gR h x7 5 0).bind fun x9 =>
      (dI h x9 2 p5).bind fun x11 =>
      if x11 = p1 then (
        if p3 = 0 then (
          bnd2 (f_X1_row E p5 h) fun x17 h15 =>
          f_X1_difference_b53 E (f_X1_difference_l6 E n) p0 p1 p2 p3 p5 p4 x17 h15
        ) else (
          bnd2 (f_X1_column E p5 h) fun x20 h18 =>
          f_X1_difference_b53 E (f_X1_difference_l6 E n) p0 p1 p2 p3 p5 p4 x20 h18
        )
      ) else (
        f_X1_difference_b65 E (f_X1_difference_l6 E n) p0 p1 p2 p3 p4 p5 h
      )
    )
theorem w_X1_difference_l6 (C0 : zCx p l e R s m args below meth c D B0 6 "FranchiseLedger" cX1_difference E 2 80 (Option.some Jvm.ClassFile.FieldType.int) "difference") {r : Int32} {h' : zH} : ∀ (n : Nat) (p0 : Nat) (p1 : Int32) (p2 : Int32) (p3 : Int32) (p4 : Int32) (p5 : Int32) (h : zH), f_X1_difference_l6 E n p0 p1 p2 p3 p4 p5 h = some (r, h') → zW p l e R s m args below meth c D B0 6 (zEnd D B0 R below args s (zoI r) h') h 6 [(0, .ref p0), (1, .int p1), (2, .int p2), (3, .int p3), (4, .int p4), (5, .int p5)] [] := by
  intro n
  induction n with
  | zero =>
    intro p0 p1 p2 p3 p4 p5 h hf
    unfold f_X1_difference_l6 at hf
    cases hf
  | succ n ih =>
    intro p0 p1 p2 p3 p4 p5 h hf
    unfold f_X1_difference_l6 at hf
    refine zr_iload C0 dX1_difference_6 5 rfl ?_
    refine zr_sipush C0 (v := 900) dX1_difference_8 (by decide) ?_
    refine zr_icmp_ge C0 (tgt := 71) dX1_difference_11 (by decide) (fun c1 => ?_) (fun c1 => ?_)
    · have hf := zif_t c1 hf
      refine zr_iload C0 dX1_difference_71 4 rfl ?_
      obtain ⟨x4, h2, e3, hf⟩ := zbind2 hf
      refine zr_callS_r C0 cv_X1_16 (m_J12_abs C0.2.2.2.2.2.2.1 e3) (by decide) (by decide) rfl rfl (Nat.le_of_ble_eq_true rfl) dX1_difference_73 rfl ?_
      refine zretW hf ?_
      exact zr_iret C0 (ty := .int) rfl rfl dX1_difference_76 rfl
    · have hf := zif_f c1 hf
      refine zr_aload_n C0 dX1_difference_14 rfl 0 rfl ?_
      obtain ⟨x5, e6, hf⟩ := zbind hf
      refine zr_get C0 fl_X1_39_X1 dX1_difference_15 (zgR e6) ?_
      obtain ⟨x7, e8, hf⟩ := zbind hf
      refine zr_get C0 fl_X1_171_X4 dX1_difference_18 (zgR e8) ?_
      obtain ⟨x9, e10, hf⟩ := zbind hf
      refine zr_get C0 fl_X1_175_X5 dX1_difference_21 (zgR e10) ?_
      refine zr_iload C0 dX1_difference_24 5 rfl ?_
      obtain ⟨x11, e12, hf⟩ := zbind hf
      refine zr_bald C0 dX1_difference_26 e12 ?_
      refine zr_iload_n C0 dX1_difference_27 rfl 1 rfl ?_
      refine zr_icmp_eq C0 (tgt := 34) dX1_difference_28 (by decide) (fun c13 => ?_) (fun c13 => ?_)
      · have hf := zif_t c13 hf
        refine zr_iload C0 dX1_difference_34 4 rfl ?_
        refine zr_iload_n C0 dX1_difference_36 rfl 3 rfl ?_
        refine zr_if_eq C0 (tgt := 48) dX1_difference_37 (by decide) (fun c14 => ?_) (fun c14 => ?_)
        · have hf := zif_t c14 hf
          refine zr_iload C0 dX1_difference_48 5 rfl ?_
          obtain ⟨x17, h15, e16, hf⟩ := zbind2 hf
          refine zr_callS_r C0 cv_X1_21 (m_X1_row C0.2.2.2.2.2.2.1 e16) (by decide) (by decide) rfl rfl (Nat.le_of_ble_eq_true rfl) dX1_difference_50 rfl ?_
          refine zr_sub [0, 1, 2, 3, 5] rfl ?_
          exact w_X1_difference_b53 C0 ih hf
        · have hf := zif_f c14 hf
          refine zr_iload C0 dX1_difference_40 5 rfl ?_
          obtain ⟨x20, h18, e19, hf⟩ := zbind2 hf
          refine zr_callS_r C0 cv_X1_12 (m_X1_column C0.2.2.2.2.2.2.1 e19) (by decide) (by decide) rfl rfl (Nat.le_of_ble_eq_true rfl) dX1_difference_42 rfl ?_
          refine zr_goto C0 (tgt := 53) dX1_difference_45 (by decide) ?_
          refine zr_sub [0, 1, 2, 3, 5] rfl ?_
          exact w_X1_difference_b53 C0 ih hf
      · have hf := zif_f c13 hf
        refine zr_goto C0 (tgt := 65) dX1_difference_31 (by decide) ?_
        exact w_X1_difference_b65 C0 ih hf
def f_X1_difference_b0 (E : zE) (p0 : Nat) (p1 : Int32) (p2 : Int32) (p3 : Int32) (h : zH) : Option (Int32 × zH) :=
  f_X1_difference_l6 E E.1 p0 p1 p2 p3 (0 : Int32) (0 : Int32) h
theorem w_X1_difference_b0 (C0 : zCx p l e R s m args below meth c D B0 6 "FranchiseLedger" cX1_difference E 2 80 (Option.some Jvm.ClassFile.FieldType.int) "difference") {r : Int32} {h' : zH} {p0 : Nat} {p1 : Int32} {p2 : Int32} {p3 : Int32} {h : zH} (hf : f_X1_difference_b0 E p0 p1 p2 p3 h = some (r, h')) : zW p l e R s m args below meth c D B0 6 (zEnd D B0 R below args s (zoI r) h') h 0 [(0, .ref p0), (1, .int p1), (2, .int p2), (3, .int p3)] [] := by
  unfold f_X1_difference_b0 at hf
  refine zr_iconst C0 (v := 0) dX1_difference_0 (by decide) ?_
  refine zr_istore (i := 4) (lv' := [(4, .int (0 : Int32)), (0, .ref p0), (1, .int p1), (2, .int p2), (3, .int p3)]) C0 dX1_difference_1 (by decide) (by first | rfl | simp [zst1, zst2, zcat_rf]) ?_
  refine zr_iconst C0 (v := 0) dX1_difference_3 (by decide) ?_
  refine zr_istore (i := 5) (lv' := [(5, .int (0 : Int32)), (4, .int (0 : Int32)), (0, .ref p0), (1, .int p1), (2, .int p2), (3, .int p3)]) C0 dX1_difference_4 (by decide) (by first | rfl | simp [zst1, zst2, zcat_rf]) ?_
  refine zr_sub [2, 3, 4, 5, 1, 0] rfl ?_
  exact w_X1_difference_l6 C0 _ _ _ _ _ _ _ _ hf
def f_X1_difference (E : zE) (p0 : Nat) (p1 : Int32) (p2 : Int32) (p3 : Int32) (h : zH) : Option (Int32 × zH) := f_X1_difference_b0 E p0 p1 p2 p3 h
theorem m_X1_difference {l : Launch} (hst : l.stackTraces = false) {D : zD} {B0 : Nat} {E : zE} {p0 : Nat} {p1 : Int32} {p2 : Int32} {p3 : Int32} {h h' : zH} {r : Int32} (hf : f_X1_difference E p0 p1 p2 p3 h = some (r, h')) : zMet l yX1_difference (ws_ yX1_difference cX1_difference 6 (Option.some Jvm.ClassFile.FieldType.int)) 2 80 D B0 E [.ref p0, .int p1, .int p2, .int p3] h (zoI r) h' := by
  unfold f_X1_difference at hf
  refine zMet_of hst (by decide +kernel) rfl rfl (Nat.le_of_ble_eq_true rfl) (fun p e R s m below meth c C0 hno => ?_)
  show zW _ _ _ _ _ _ _ _ _ _ _ _ _ _ _ _ [(0, .ref p0), (1, .int p1), (2, .int p2), (3, .int p3)] []
  exact w_X1_difference_b0 C0 hf
def f_X1_halvingLine_b88 (E : zE) (k19 : Nat → Int32 → Int32 → Int32 → Int32 → zH → Option ((Int32 ⊕ (Nat × Nat)) × zH)) (p0 : Nat) (p1 : Int32) (p2 : Int32) (p3 : Int32) (p4 : Int32) (h : zH) : Option ((Int32 ⊕ (Nat × Nat)) × zH) :=
  k19 p0 p1 p2 p3 (p4 + 1) h
theorem w_X1_halvingLine_b88 (C0 : zCx p l e R s m args below meth c D B0 8 "FranchiseLedger" cX1_halvingLine E 11 175 (Option.some Jvm.ClassFile.FieldType.int) "halvingLine") (hno : ∀ x ∈ c.exceptionTable.toList, False) {r : (Int32 ⊕ (Nat × Nat))} {h' : zH} {k19 : Nat → Int32 → Int32 → Int32 → Int32 → zH → Option ((Int32 ⊕ (Nat × Nat)) × zH)} (hk19 : ∀ (p0 : Nat) (p1 : Int32) (p2 : Int32) (p3 : Int32) (p4 : Int32) (h : zH), k19 p0 p1 p2 p3 p4 h = some (r, h') → zW p l e R s m args below meth c D B0 8 (zEnd D B0 R below args s (zoT zoI r) h') h 19 [(0, .ref p0), (1, .int p1), (2, .int p2), (3, .int p3), (4, .int p4)] []) {p0 : Nat} {p1 : Int32} {p2 : Int32} {p3 : Int32} {p4 : Int32} {h : zH} (hf : f_X1_halvingLine_b88 E k19 p0 p1 p2 p3 p4 h = some (r, h')) : zW p l e R s m args below meth c D B0 8 (zEnd D B0 R below args s (zoT zoI r) h') h 88 [(0, .ref p0), (1, .int p1), (2, .int p2), (3, .int p3), (4, .int p4)] [] := by
  unfold f_X1_halvingLine_b88 at hf
  refine zr_iinc (lv' := [(4, .int (p4 + 1)), (0, .ref p0), (1, .int p1), (2, .int p2), (3, .int p3)]) C0 dX1_halvingLine_88 4 rfl rfl (by decide) (by first | rfl | simp [zst1, zst2, zcat_rf]) ?_
  refine zr_goto C0 (tgt := 19) dX1_halvingLine_91 (by decide) ?_
  refine zr_sub [1, 2, 3, 4, 0] rfl ?_
  exact hk19 _ _ _ _ _ _ hf
def f_X1_halvingLine_b84 (E : zE) (k19 : Nat → Int32 → Int32 → Int32 → Int32 → zH → Option ((Int32 ⊕ (Nat × Nat)) × zH)) (p0 : Nat) (p1 : Int32) (p4 : Int32) (p7 : Int32) (s0 : Int32) (h : zH) : Option ((Int32 ⊕ (Nat × Nat)) × zH) :=
  f_X1_halvingLine_b88 E k19 p0 p1 s0 p7 p4 h
theorem w_X1_halvingLine_b84 (C0 : zCx p l e R s m args below meth c D B0 8 "FranchiseLedger" cX1_halvingLine E 11 175 (Option.some Jvm.ClassFile.FieldType.int) "halvingLine") (hno : ∀ x ∈ c.exceptionTable.toList, False) {r : (Int32 ⊕ (Nat × Nat))} {h' : zH} {k19 : Nat → Int32 → Int32 → Int32 → Int32 → zH → Option ((Int32 ⊕ (Nat × Nat)) × zH)} (hk19 : ∀ (p0 : Nat) (p1 : Int32) (p2 : Int32) (p3 : Int32) (p4 : Int32) (h : zH), k19 p0 p1 p2 p3 p4 h = some (r, h') → zW p l e R s m args below meth c D B0 8 (zEnd D B0 R below args s (zoT zoI r) h') h 19 [(0, .ref p0), (1, .int p1), (2, .int p2), (3, .int p3), (4, .int p4)] []) {p0 : Nat} {p1 : Int32} {p4 : Int32} {p7 : Int32} {s0 : Int32} {h : zH} (hf : f_X1_halvingLine_b84 E k19 p0 p1 p4 p7 s0 h = some (r, h')) : zW p l e R s m args below meth c D B0 8 (zEnd D B0 R below args s (zoT zoI r) h') h 84 [(0, .ref p0), (1, .int p1), (4, .int p4), (7, .int p7)] [.int s0] := by
  unfold f_X1_halvingLine_b84 at hf
  refine zr_istore_n (i := 2) (lv' := [(2, .int s0), (0, .ref p0), (1, .int p1), (4, .int p4), (7, .int p7)]) C0 dX1_halvingLine_84 rfl (by decide) (by first | rfl | simp [zst1, zst2, zcat_rf]) ?_
  refine zr_iload C0 dX1_halvingLine_85 4 rfl ?_
  refine zr_istore_n (i := 3) (lv' := [(3, .int p7), (2, .int s0), (0, .ref p0), (1, .int p1), (4, .int p4), (7, .int p7)]) C0 dX1_halvingLine_87 rfl (by decide) (by first | rfl | simp [zst1, zst2, zcat_rf]) ?_
  refine zr_sub [2, 3, 1, 0, 4] rfl ?_
  exact w_X1_halvingLine_b88 C0 hno hk19 hf
def f_X1_halvingLine_b38 (E : zE) (k19 : Nat → Int32 → Int32 → Int32 → Int32 → zH → Option ((Int32 ⊕ (Nat × Nat)) × zH)) (p0 : Nat) (p1 : Int32) (p2 : Int32) (p3 : Int32) (p4 : Int32) (s0 : Int32) (h : zH) : Option ((Int32 ⊕ (Nat × Nat)) × zH) :=
  (cko h p0 0).bind fun _ =>
  bnd2 (f_X1_difference E p0 p1 ((p4 - p4 / (29 : Int32) * (29 : Int32)) + (1 : Int32)) s0 h) fun x4 h2 =>
  if x4 < p3 then (
    if s0 = 0 then (
      f_X1_halvingLine_b84 E k19 p0 p1 p4 x4 ((100 : Int32) + ((p4 - p4 / (29 : Int32) * (29 : Int32)) + (1 : Int32))) h2
    ) else (
      f_X1_halvingLine_b84 E k19 p0 p1 p4 x4 ((p4 - p4 / (29 : Int32) * (29 : Int32)) + (1 : Int32)) h2
    )
  ) else (
    f_X1_halvingLine_b88 E k19 p0 p1 p2 p3 p4 h2
  )
theorem w_X1_halvingLine_b38 (C0 : zCx p l e R s m args below meth c D B0 8 "FranchiseLedger" cX1_halvingLine E 11 175 (Option.some Jvm.ClassFile.FieldType.int) "halvingLine") (hno : ∀ x ∈ c.exceptionTable.toList, False) {r : (Int32 ⊕ (Nat × Nat))} {h' : zH} {k19 : Nat → Int32 → Int32 → Int32 → Int32 → zH → Option ((Int32 ⊕ (Nat × Nat)) × zH)} (hk19 : ∀ (p0 : Nat) (p1 : Int32) (p2 : Int32) (p3 : Int32) (p4 : Int32) (h : zH), k19 p0 p1 p2 p3 p4 h = some (r, h') → zW p l e R s m args below meth c D B0 8 (zEnd D B0 R below args s (zoT zoI r) h') h 19 [(0, .ref p0), (1, .int p1), (2, .int p2), (3, .int p3), (4, .int p4)] []) {p0 : Nat} {p1 : Int32} {p2 : Int32} {p3 : Int32} {p4 : Int32} {s0 : Int32} {h : zH} (hf : f_X1_halvingLine_b38 E k19 p0 p1 p2 p3 p4 s0 h = some (r, h')) : zW p l e R s m args below meth c D B0 8 (zEnd D B0 R below args s (zoT zoI r) h') h 38 [(0, .ref p0), (1, .int p1), (2, .int p2), (3, .int p3), (4, .int p4)] [.int s0] := by
  unfold f_X1_halvingLine_b38 at hf
  refine zr_istore (i := 5) (lv' := [(5, .int s0), (0, .ref p0), (1, .int p1), (2, .int p2), (3, .int p3), (4, .int p4)]) C0 dX1_halvingLine_38 (by decide) (by first | rfl | simp [zst1, zst2, zcat_rf]) ?_
  refine zr_iload C0 dX1_halvingLine_40 5 rfl ?_
  refine zr_bipush C0 (v := 29) dX1_halvingLine_42 (by decide) ?_
  refine zr_irem C0 dX1_halvingLine_44 (by decide) ?_
  refine zr_iconst C0 (v := 1) dX1_halvingLine_45 (by decide) ?_
  refine zr_iadd C0 dX1_halvingLine_46 ?_
  refine zr_istore (i := 6) (lv' := [(6, .int ((p4 - p4 / (29 : Int32) * (29 : Int32)) + (1 : Int32))), (5, .int s0), (0, .ref p0), (1, .int p1), (2, .int p2), (3, .int p3), (4, .int p4)]) C0 dX1_halvingLine_47 (by decide) (by first | rfl | simp [zst1, zst2, zcat_rf]) ?_
  refine zr_aload_n C0 dX1_halvingLine_49 rfl 2 rfl ?_
  refine zr_iload_n C0 dX1_halvingLine_50 rfl 3 rfl ?_
  refine zr_iload C0 dX1_halvingLine_51 0 rfl ?_
  refine zr_iload C0 dX1_halvingLine_53 1 rfl ?_
  obtain ⟨_, e1, hf⟩ := zbind hf
  obtain ⟨x4, h2, e3, hf⟩ := zbind2 hf
  refine zr_callV_r C0 cv_X1_238_X1 rfl (zcko e1) (m_X1_difference C0.2.2.2.2.2.2.1 e3) (by decide) (by decide) rfl rfl (Nat.le_of_ble_eq_true rfl) dX1_halvingLine_55 rfl ?_
  refine zr_istore (i := 7) (lv' := [(7, .int x4), (6, .int ((p4 - p4 / (29 : Int32) * (29 : Int32)) + (1 : Int32))), (5, .int s0), (0, .ref p0), (1, .int p1), (2, .int p2), (3, .int p3), (4, .int p4)]) C0 dX1_halvingLine_58 (by decide) (by first | rfl | simp [zst1, zst2, zcat_rf]) ?_
  refine zr_iload C0 dX1_halvingLine_60 0 rfl ?_
  refine zr_iload_n C0 dX1_halvingLine_62 rfl 6 rfl ?_
  refine zr_icmp_lt C0 (tgt := 69) dX1_halvingLine_63 (by decide) (fun c5 => ?_) (fun c5 => ?_)
  · have hf := zif_t c5 hf
    refine zr_iload C0 dX1_halvingLine_69 2 rfl ?_
    refine zr_if_eq C0 (tgt := 79) dX1_halvingLine_71 (by decide) (fun c6 => ?_) (fun c6 => ?_)
    · have hf := zif_t c6 hf
      refine zr_bipush C0 (v := 100) dX1_halvingLine_79 (by decide) ?_
      refine zr_iload C0 dX1_halvingLine_81 1 rfl ?_
      refine zr_iadd C0 dX1_halvingLine_83 ?_
      refine zr_sub [3, 4, 7, 0] rfl ?_
      exact w_X1_halvingLine_b84 C0 hno hk19 hf
    · have hf := zif_f c6 hf
      refine zr_iload C0 dX1_halvingLine_74 1 rfl ?_
      refine zr_goto C0 (tgt := 84) dX1_halvingLine_76 (by decide) ?_
      refine zr_sub [3, 4, 7, 0] rfl ?_
      exact w_X1_halvingLine_b84 C0 hno hk19 hf
  · have hf := zif_f c5 hf
    refine zr_goto C0 (tgt := 88) dX1_halvingLine_66 (by decide) ?_
    refine zr_sub [3, 4, 5, 6, 7] rfl ?_
    exact w_X1_halvingLine_b88 C0 hno hk19 hf
def f_X1_halvingLine_l19 (E : zE) : Nat → Nat → Int32 → Int32 → Int32 → Int32 → zH → Option ((Int32 ⊕ (Nat × Nat)) × zH)
  | 0, _, _, _, _, _, _ => none
  | n + 1, p0, p1, p2, p3, p4, h =>
    if (58 : Int32) ≤ p4 then (
      some (.inl p2, h)
    ) else (
      if (29 : Int32) ≤ p4 then (
        f_X1_halvingLine_b38 E (f_X1_halvingLine_l19 E n) p0 p1 p2 p3 p4 (0 : Int32) h
      ) else (
        f_X1_halvingLine_b38 E (f_X1_halvingLine_l19 E n) p0 p1 p2 p3 p4 (1 : Int32) h
      )
    )
theorem w_X1_halvingLine_l19 (C0 : zCx p l e R s m args below meth c D B0 8 "FranchiseLedger" cX1_halvingLine E 11 175 (Option.some Jvm.ClassFile.FieldType.int) "halvingLine") (hno : ∀ x ∈ c.exceptionTable.toList, False) {r : (Int32 ⊕ (Nat × Nat))} {h' : zH} : ∀ (n : Nat) (p0 : Nat) (p1 : Int32) (p2 : Int32) (p3 : Int32) (p4 : Int32) (h : zH), f_X1_halvingLine_l19 E n p0 p1 p2 p3 p4 h = some (r, h') → zW p l e R s m args below meth c D B0 8 (zEnd D B0 R below args s (zoT zoI r) h') h 19 [(0, .ref p0), (1, .int p1), (2, .int p2), (3, .int p3), (4, .int p4)] [] := by
  intro n
  induction n with
  | zero =>
    intro p0 p1 p2 p3 p4 h hf
    unfold f_X1_halvingLine_l19 at hf
    cases hf
  | succ n ih =>
    intro p0 p1 p2 p3 p4 h hf
    unfold f_X1_halvingLine_l19 at hf
    refine zr_iload C0 dX1_halvingLine_19 4 rfl ?_
    refine zr_bipush C0 (v := 58) dX1_halvingLine_21 (by decide) ?_
    refine zr_icmp_ge C0 (tgt := 94) dX1_halvingLine_23 (by decide) (fun c1 => ?_) (fun c1 => ?_)
    · have hf := zif_t c1 hf
      refine zr_iload_n C0 dX1_halvingLine_94 rfl 2 rfl ?_
      refine zretW hf ?_
      exact zr_iret C0 (ty := .int) rfl rfl dX1_halvingLine_95 rfl
    · have hf := zif_f c1 hf
      refine zr_iload C0 dX1_halvingLine_26 4 rfl ?_
      refine zr_bipush C0 (v := 29) dX1_halvingLine_28 (by decide) ?_
      refine zr_icmp_ge C0 (tgt := 37) dX1_halvingLine_30 (by decide) (fun c2 => ?_) (fun c2 => ?_)
      · have hf := zif_t c2 hf
        refine zr_iconst C0 (v := 0) dX1_halvingLine_37 (by decide) ?_
        exact w_X1_halvingLine_b38 C0 hno ih hf
      · have hf := zif_f c2 hf
        refine zr_iconst C0 (v := 1) dX1_halvingLine_33 (by decide) ?_
        refine zr_goto C0 (tgt := 38) dX1_halvingLine_34 (by decide) ?_
        exact w_X1_halvingLine_b38 C0 hno ih hf
def f_X1_halvingLine_b0 (E : zE) (p0 : Nat) (p1 : Int32) (h : zH) : Option ((Int32 ⊕ (Nat × Nat)) × zH) :=
  (cko h p0 0).bind fun _ =>
  bnd2 (f_X1_area E p0 p1 h) fun x4 h2 =>
  Sum.elim (fun x5 => (
    if x5 = 0 then (
      some (.inl (-1 : Int32), h2)
    ) else (
      f_X1_halvingLine_l19 E E.1 p0 p1 (-1 : Int32) (901 : Int32) (0 : Int32) h2
    )
  )) (fun q6 => (
    some (.inr q6, h2)
  )) x4
theorem w_X1_halvingLine_b0 (C0 : zCx p l e R s m args below meth c D B0 8 "FranchiseLedger" cX1_halvingLine E 11 175 (Option.some Jvm.ClassFile.FieldType.int) "halvingLine") (hno : ∀ x ∈ c.exceptionTable.toList, False) {r : (Int32 ⊕ (Nat × Nat))} {h' : zH} {p0 : Nat} {p1 : Int32} {h : zH} (hf : f_X1_halvingLine_b0 E p0 p1 h = some (r, h')) : zW p l e R s m args below meth c D B0 8 (zEnd D B0 R below args s (zoT zoI r) h') h 0 [(0, .ref p0), (1, .int p1)] [] := by
  unfold f_X1_halvingLine_b0 at hf
  refine zr_aload_n C0 dX1_halvingLine_0 rfl 0 rfl ?_
  refine zr_iload_n C0 dX1_halvingLine_1 rfl 1 rfl ?_
  obtain ⟨_, e1, hf⟩ := zbind hf
  obtain ⟨x4, h2, e3, hf⟩ := zbind2 hf
  rcases x4 with x5 | q6
  · have hf := zinl hf
    refine zr_callV_r C0 cv_X1_237_X1 rfl (zcko e1) (m_X1_area C0.2.2.2.2.2.2.1 e3) (by decide) (by decide) rfl rfl (Nat.le_of_ble_eq_true rfl) dX1_halvingLine_2 rfl ?_
    refine zr_if_ne C0 (tgt := 10) dX1_halvingLine_5 (by decide) (fun c7 => ?_) (fun c7 => ?_)
    · have hf := zif_f c7 hf
      refine zr_iconst C0 (v := -1) dX1_halvingLine_10 (by decide) ?_
      refine zr_istore_n (i := 2) (lv' := [(2, .int (-1 : Int32)), (0, .ref p0), (1, .int p1)]) C0 dX1_halvingLine_11 rfl (by decide) (by first | rfl | simp [zst1, zst2, zcat_rf]) ?_
      refine zr_sipush C0 (v := 901) dX1_halvingLine_12 (by decide) ?_
      refine zr_istore_n (i := 3) (lv' := [(3, .int (901 : Int32)), (2, .int (-1 : Int32)), (0, .ref p0), (1, .int p1)]) C0 dX1_halvingLine_15 rfl (by decide) (by first | rfl | simp [zst1, zst2, zcat_rf]) ?_
      refine zr_iconst C0 (v := 0) dX1_halvingLine_16 (by decide) ?_
      refine zr_istore (i := 4) (lv' := [(4, .int (0 : Int32)), (3, .int (901 : Int32)), (2, .int (-1 : Int32)), (0, .ref p0), (1, .int p1)]) C0 dX1_halvingLine_17 (by decide) (by first | rfl | simp [zst1, zst2, zcat_rf]) ?_
      refine zr_sub [3, 4, 2, 1, 0] rfl ?_
      exact w_X1_halvingLine_l19 C0 hno _ _ _ _ _ _ _ hf
    · have hf := zif_t c7 hf
      refine zr_iconst C0 (v := -1) dX1_halvingLine_8 (by decide) ?_
      refine zretW hf ?_
      exact zr_iret C0 (ty := .int) rfl rfl dX1_halvingLine_9 rfl
  · have hf := zinr hf
    refine zretW hf ?_
    exact zr_callV_t C0 cv_X1_237_X1 rfl (zcko e1) (m_X1_area C0.2.2.2.2.2.2.1 e3) (by decide) (by decide) rfl rfl (Nat.le_of_ble_eq_true rfl) dX1_halvingLine_2 (zr_out C0 hno rfl)
def f_X1_halvingLine (E : zE) (p0 : Nat) (p1 : Int32) (h : zH) : Option ((Int32 ⊕ (Nat × Nat)) × zH) := f_X1_halvingLine_b0 E p0 p1 h
theorem m_X1_halvingLine {l : Launch} (hst : l.stackTraces = false) {D : zD} {B0 : Nat} {E : zE} {p0 : Nat} {p1 : Int32} {h h' : zH} {r : (Int32 ⊕ (Nat × Nat))} (hf : f_X1_halvingLine E p0 p1 h = some (r, h')) : zMet l yX1_halvingLine (ws_ yX1_halvingLine cX1_halvingLine 8 (Option.some Jvm.ClassFile.FieldType.int)) 11 175 D B0 E [.ref p0, .int p1] h (zoT zoI r) h' := by
  unfold f_X1_halvingLine at hf
  refine zMet_of hst (by decide +kernel) rfl rfl (Nat.le_of_ble_eq_true rfl) (fun p e R s m below meth c C0 hno => ?_)
  show zW _ _ _ _ _ _ _ _ _ _ _ _ _ _ _ _ [(0, .ref p0), (1, .int p1)] []
  exact w_X1_halvingLine_b0 C0 hno hf
def f_X1_isPlan_b0 (E : zE) (p0 : Nat) (p1 : Int32) (h : zH) : Option (Int32 × zH) :=
  (gR h p0 0 0).bind fun x1 =>
  (gR h x1 2 0).bind fun x3 =>
  (cko h x3 15).bind fun _ =>
  bnd2 (f_J2_size E x3 h) fun x8 h6 =>
  bnd2 (f_X1_inRange E (p1.toInt64) (0 : Int64) ((x8 - (1 : Int32)).toInt64) h6) fun x11 h9 =>
  (zgd .boolean x11).bind fun _ =>
  some (x11, h9)
theorem w_X1_isPlan_b0 (C0 : zCx p l e R s m args below meth c D B0 2 "FranchiseLedger" cX1_isPlan E 2 85 (Option.some Jvm.ClassFile.FieldType.boolean) "isPlan") {r : Int32} {h' : zH} {p0 : Nat} {p1 : Int32} {h : zH} (hf : f_X1_isPlan_b0 E p0 p1 h = some (r, h')) : zW p l e R s m args below meth c D B0 2 (zEnd D B0 R below args s (zoI r) h') h 0 [(0, .ref p0), (1, .int p1)] [] := by
  unfold f_X1_isPlan_b0 at hf
  refine zr_iload_n C0 dX1_isPlan_0 rfl 1 rfl ?_
  refine zr_i2l C0 dX1_isPlan_1 ?_
  refine zr_lconst C0 (v := 0) dX1_isPlan_2 (by decide) ?_
  refine zr_aload_n C0 dX1_isPlan_3 rfl 0 rfl ?_
  obtain ⟨x1, e2, hf⟩ := zbind hf
  refine zr_get C0 fl_X1_30_X1 dX1_isPlan_4 (zgR e2) ?_
  obtain ⟨x3, e4, hf⟩ := zbind hf
  refine zr_get C0 fl_X1_117_X2 dX1_isPlan_7 (zgR e4) ?_
  obtain ⟨_, e5, hf⟩ := zbind hf
  obtain ⟨x8, h6, e7, hf⟩ := zbind2 hf
  refine zr_callF_r C0 cv_X1_78_J2 rfl (zcko e5) (m_J2_size C0.2.2.2.2.2.2.1 e7) (by decide) (by decide) rfl rfl (Nat.le_of_ble_eq_true rfl) dX1_isPlan_10 rfl ?_
  refine zr_iconst C0 (v := 1) dX1_isPlan_15 (by decide) ?_
  refine zr_isub C0 dX1_isPlan_16 ?_
  refine zr_i2l C0 dX1_isPlan_17 ?_
  obtain ⟨x11, h9, e10, hf⟩ := zbind2 hf
  refine zr_callS_r C0 cv_X1_84 (m_X1_inRange C0.2.2.2.2.2.2.1 e10) (by decide) (by decide) rfl rfl (Nat.le_of_ble_eq_true rfl) dX1_isPlan_18 rfl ?_
  obtain ⟨_, e12, hf⟩ := zbind hf
  refine zretW hf ?_
  exact zr_iret C0 (ty := .boolean) rfl (zgd_n e12) dX1_isPlan_21 rfl
def f_X1_isPlan (E : zE) (p0 : Nat) (p1 : Int32) (h : zH) : Option (Int32 × zH) := f_X1_isPlan_b0 E p0 p1 h
theorem m_X1_isPlan {l : Launch} (hst : l.stackTraces = false) {D : zD} {B0 : Nat} {E : zE} {p0 : Nat} {p1 : Int32} {h h' : zH} {r : Int32} (hf : f_X1_isPlan E p0 p1 h = some (r, h')) : zMet l yX1_isPlan (ws_ yX1_isPlan cX1_isPlan 2 (Option.some Jvm.ClassFile.FieldType.boolean)) 2 85 D B0 E [.ref p0, .int p1] h (zoI r) h' := by
  unfold f_X1_isPlan at hf
  refine zMet_of hst (by decide +kernel) rfl rfl (Nat.le_of_ble_eq_true rfl) (fun p e R s m below meth c C0 hno => ?_)
  show zW _ _ _ _ _ _ _ _ _ _ _ _ _ _ _ _ [(0, .ref p0), (1, .int p1)] []
  exact w_X1_isPlan_b0 C0 hf
def f_X1_royalty_b0 (E : zE) (p0 : Nat) (p1 : Int32) (p2 : Int64) (h : zH) : Option ((Int64 ⊕ (Nat × Nat)) × zH) :=
  bnd2 (nA h 3 (1 : Int32) (.inl fun _ => 0)) fun q1 h2 =>
  (cko h2 p0 0).bind fun _ =>
  bnd2 (f_X1_isPlan E p0 p1 h2) fun x7 h5 =>
  (zgd .boolean x7).bind fun _ =>
  (sI h5 q1 3 (0 : Int32) x7).bind fun h9 =>
  bnd2 (f_X1_requireIndex E q1 h9) fun x13 h11 =>
  Sum.elim (fun x14 => (
    bnd2 (nA h11 3 (1 : Int32) (.inl fun _ => 0)) fun q16 h17 =>
    bnd2 (f_X1_inRange E p2 (0 : Int64) (1000000000 : Int64) h17) fun x21 h19 =>
    (zgd .boolean x21).bind fun _ =>
    (sI h19 q16 3 (0 : Int32) x21).bind fun h23 =>
    bnd2 (f_X1_requireArguments E q16 h23) fun x27 h25 =>
    Sum.elim (fun x28 => (
      (gR h25 p0 0 0).bind fun x30 =>
      (gR h25 x30 2 0).bind fun x32 =>
      (cko h25 x32 15).bind fun _ =>
      bnd2 (f_J2_get E x32 p1 h25) fun x37 h35 =>
      (cko h35 x37 8).bind fun _ =>
      (cko h35 x37 8).bind fun _ =>
      bnd2 (f_X9_royalty E x37 p2 h35) fun x42 h40 =>
      some (.inl x42, h40)
    )) (fun q29 => (
      some (.inr q29, h25)
    )) x27
  )) (fun q15 => (
    some (.inr q15, h11)
  )) x13
theorem w_X1_royalty_b0 (C0 : zCx p l e R s m args below meth c D B0 4 "FranchiseLedger" cX1_royalty E 10 154 (Option.some Jvm.ClassFile.FieldType.long) "royalty") (hno : ∀ x ∈ c.exceptionTable.toList, False) {r : (Int64 ⊕ (Nat × Nat))} {h' : zH} {p0 : Nat} {p1 : Int32} {p2 : Int64} {h : zH} (hf : f_X1_royalty_b0 E p0 p1 p2 h = some (r, h')) : zW p l e R s m args below meth c D B0 4 (zEnd D B0 R below args s (zoT zoL r) h') h 0 [(0, .ref p0), (1, .int p1), (2, .long p2)] [] := by
  unfold f_X1_royalty_b0 at hf
  refine zr_iconst C0 (v := 1) dX1_royalty_0 (by decide) ?_
  obtain ⟨q1, h2, e3, hf⟩ := zbind2 hf
  refine zr_newa C0 (atype := .boolean) (t := 3) q627 rfl (by decide) (fun _ => rfl) dX1_royalty_1 e3 ?_
  refine zr_dup C0 dX1_royalty_3 rfl ?_
  refine zr_iconst C0 (v := 0) dX1_royalty_4 (by decide) ?_
  refine zr_aload_n C0 dX1_royalty_5 rfl 0 rfl ?_
  refine zr_iload_n C0 dX1_royalty_6 rfl 1 rfl ?_
  obtain ⟨_, e4, hf⟩ := zbind hf
  obtain ⟨x7, h5, e6, hf⟩ := zbind2 hf
  refine zr_callV_r C0 cv_X1_242_X1 rfl (zcko e4) (m_X1_isPlan C0.2.2.2.2.2.2.1 e6) (by decide) (by decide) rfl rfl (Nat.le_of_ble_eq_true rfl) dX1_royalty_7 rfl ?_
  obtain ⟨_, e8, hf⟩ := zbind hf
  obtain ⟨h9, e10, hf⟩ := zbind hf
  refine zr_zast C0 dX1_royalty_10 (zgd_b e8) e10 ?_
  obtain ⟨x13, h11, e12, hf⟩ := zbind2 hf
  rcases x13 with x14 | q15
  · have hf := zinl hf
    refine zr_callS_r C0 cv_X1_92 (m_X1_requireIndex C0.2.2.2.2.2.2.1 e12) (by decide) (by decide) rfl rfl (Nat.le_of_ble_eq_true rfl) dX1_royalty_11 rfl ?_
    refine zr_iconst C0 (v := 1) dX1_royalty_14 (by decide) ?_
    obtain ⟨q16, h17, e18, hf⟩ := zbind2 hf
    refine zr_newa C0 (atype := .boolean) (t := 3) q627 rfl (by decide) (fun _ => rfl) dX1_royalty_15 e18 ?_
    refine zr_dup C0 dX1_royalty_17 rfl ?_
    refine zr_iconst C0 (v := 0) dX1_royalty_18 (by decide) ?_
    refine zr_lload_n C0 dX1_royalty_19 rfl 2 rfl ?_
    refine zr_lconst C0 (v := 0) dX1_royalty_20 (by decide) ?_
    refine zr_ldc2 C0 (v := 1000000000) q1893 dX1_royalty_21 ?_
    obtain ⟨x21, h19, e20, hf⟩ := zbind2 hf
    refine zr_callS_r C0 cv_X1_84 (m_X1_inRange C0.2.2.2.2.2.2.1 e20) (by decide) (by decide) rfl rfl (Nat.le_of_ble_eq_true rfl) dX1_royalty_24 rfl ?_
    obtain ⟨_, e22, hf⟩ := zbind hf
    obtain ⟨h23, e24, hf⟩ := zbind hf
    refine zr_zast C0 dX1_royalty_27 (zgd_b e22) e24 ?_
    obtain ⟨x27, h25, e26, hf⟩ := zbind2 hf
    rcases x27 with x28 | q29
    · have hf := zinl hf
      refine zr_callS_r C0 cv_X1_168 (m_X1_requireArguments C0.2.2.2.2.2.2.1 e26) (by decide) (by decide) rfl rfl (Nat.le_of_ble_eq_true rfl) dX1_royalty_28 rfl ?_
      refine zr_aload_n C0 dX1_royalty_31 rfl 0 rfl ?_
      obtain ⟨x30, e31, hf⟩ := zbind hf
      refine zr_get C0 fl_X1_30_X1 dX1_royalty_32 (zgR e31) ?_
      obtain ⟨x32, e33, hf⟩ := zbind hf
      refine zr_get C0 fl_X1_117_X2 dX1_royalty_35 (zgR e33) ?_
      refine zr_iload_n C0 dX1_royalty_38 rfl 1 rfl ?_
      obtain ⟨_, e34, hf⟩ := zbind hf
      obtain ⟨x37, h35, e36, hf⟩ := zbind2 hf
      refine zr_callF_r C0 cv_X1_96_J2 rfl (zcko e34) (m_J2_get C0.2.2.2.2.2.2.1 e36) (by decide) (by decide) rfl rfl (Nat.le_of_ble_eq_true rfl) dX1_royalty_39 rfl ?_
      obtain ⟨_, e38, hf⟩ := zbind hf
      refine zr_castS C0 (ci := 8) rfl (zcko e38) q2184 dX1_royalty_44 ?_
      refine zr_lload_n C0 dX1_royalty_47 rfl 2 rfl ?_
      obtain ⟨_, e39, hf⟩ := zbind hf
      obtain ⟨x42, h40, e41, hf⟩ := zbind2 hf
      refine zr_callV_r C0 cv_X1_247_X9 rfl (zcko e39) (m_X9_royalty C0.2.2.2.2.2.2.1 e41) (by decide) (by decide) rfl rfl (Nat.le_of_ble_eq_true rfl) dX1_royalty_48 rfl ?_
      refine zretW hf ?_
      exact zr_lret C0 rfl dX1_royalty_51 rfl
    · have hf := zinr hf
      refine zretW hf ?_
      exact zr_callS_t C0 cv_X1_168 (m_X1_requireArguments C0.2.2.2.2.2.2.1 e26) (by decide) (by decide) rfl rfl (Nat.le_of_ble_eq_true rfl) dX1_royalty_28 (zr_out C0 hno rfl)
  · have hf := zinr hf
    refine zretW hf ?_
    exact zr_callS_t C0 cv_X1_92 (m_X1_requireIndex C0.2.2.2.2.2.2.1 e12) (by decide) (by decide) rfl rfl (Nat.le_of_ble_eq_true rfl) dX1_royalty_11 (zr_out C0 hno rfl)
def f_X1_royalty (E : zE) (p0 : Nat) (p1 : Int32) (p2 : Int64) (h : zH) : Option ((Int64 ⊕ (Nat × Nat)) × zH) := f_X1_royalty_b0 E p0 p1 p2 h
theorem m_X1_royalty {l : Launch} (hst : l.stackTraces = false) {D : zD} {B0 : Nat} {E : zE} {p0 : Nat} {p1 : Int32} {p2 : Int64} {h h' : zH} {r : (Int64 ⊕ (Nat × Nat))} (hf : f_X1_royalty E p0 p1 p2 h = some (r, h')) : zMet l yX1_royalty (ws_ yX1_royalty cX1_royalty 4 (Option.some Jvm.ClassFile.FieldType.long)) 10 154 D B0 E [.ref p0, .int p1, .long p2] h (zoT zoL r) h' := by
  unfold f_X1_royalty at hf
  refine zMet_of hst (by decide +kernel) rfl rfl (Nat.le_of_ble_eq_true rfl) (fun p e R s m below meth c C0 hno => ?_)
  show zW _ _ _ _ _ _ _ _ _ _ _ _ _ _ _ _ [(0, .ref p0), (1, .int p1), (2, .long p2)] []
  exact w_X1_royalty_b0 C0 hno hf
def f_X1_planOf_b0 (E : zE) (p0 : Nat) (p1 : Int32) (h : zH) : Option ((Int32 ⊕ (Nat × Nat)) × zH) :=
  (cko h p0 0).bind fun _ =>
  bnd2 (f_X1_franchisee E p0 p1 h) fun x4 h2 =>
  Sum.elim (fun x5 => (
    (gI h2 x5 10 3).bind fun x7 =>
    some (.inl x7, h2)
  )) (fun q6 => (
    some (.inr q6, h2)
  )) x4
theorem w_X1_planOf_b0 (C0 : zCx p l e R s m args below meth c D B0 2 "FranchiseLedger" cX1_planOf E 11 175 (Option.some Jvm.ClassFile.FieldType.int) "planOf") (hno : ∀ x ∈ c.exceptionTable.toList, False) {r : (Int32 ⊕ (Nat × Nat))} {h' : zH} {p0 : Nat} {p1 : Int32} {h : zH} (hf : f_X1_planOf_b0 E p0 p1 h = some (r, h')) : zW p l e R s m args below meth c D B0 2 (zEnd D B0 R below args s (zoT zoI r) h') h 0 [(0, .ref p0), (1, .int p1)] [] := by
  unfold f_X1_planOf_b0 at hf
  refine zr_aload_n C0 dX1_planOf_0 rfl 0 rfl ?_
  refine zr_iload_n C0 dX1_planOf_1 rfl 1 rfl ?_
  obtain ⟨_, e1, hf⟩ := zbind hf
  obtain ⟨x4, h2, e3, hf⟩ := zbind2 hf
  rcases x4 with x5 | q6
  · have hf := zinl hf
    refine zr_callV_r C0 cv_X1_134_X1 rfl (zcko e1) (m_X1_franchisee C0.2.2.2.2.2.2.1 e3) (by decide) (by decide) rfl rfl (Nat.le_of_ble_eq_true rfl) dX1_planOf_2 rfl ?_
    obtain ⟨x7, e8, hf⟩ := zbind hf
    refine zr_get C0 fl_X1_138_X11 dX1_planOf_5 (zgI e8) ?_
    refine zretW hf ?_
    exact zr_iret C0 (ty := .int) rfl rfl dX1_planOf_8 rfl
  · have hf := zinr hf
    refine zretW hf ?_
    exact zr_callV_t C0 cv_X1_134_X1 rfl (zcko e1) (m_X1_franchisee C0.2.2.2.2.2.2.1 e3) (by decide) (by decide) rfl rfl (Nat.le_of_ble_eq_true rfl) dX1_planOf_2 (zr_out C0 hno rfl)
def f_X1_planOf (E : zE) (p0 : Nat) (p1 : Int32) (h : zH) : Option ((Int32 ⊕ (Nat × Nat)) × zH) := f_X1_planOf_b0 E p0 p1 h
theorem m_X1_planOf {l : Launch} (hst : l.stackTraces = false) {D : zD} {B0 : Nat} {E : zE} {p0 : Nat} {p1 : Int32} {h h' : zH} {r : (Int32 ⊕ (Nat × Nat))} (hf : f_X1_planOf E p0 p1 h = some (r, h')) : zMet l yX1_planOf (ws_ yX1_planOf cX1_planOf 2 (Option.some Jvm.ClassFile.FieldType.int)) 11 175 D B0 E [.ref p0, .int p1] h (zoT zoI r) h' := by
  unfold f_X1_planOf at hf
  refine zMet_of hst (by decide +kernel) rfl rfl (Nat.le_of_ble_eq_true rfl) (fun p e R s m below meth c C0 hno => ?_)
  show zW _ _ _ _ _ _ _ _ _ _ _ _ _ _ _ _ [(0, .ref p0), (1, .int p1)] []
  exact w_X1_planOf_b0 C0 hno hf
def f_X1_setPlan_b0 (E : zE) (p0 : Nat) (p1 : Int32) (p2 : Int32) (h : zH) : Option ((Int32 ⊕ (Nat × Nat)) × zH) :=
  bnd2 (nA h 3 (2 : Int32) (.inl fun _ => 0)) fun q1 h2 =>
  (cko h2 p0 0).bind fun _ =>
  bnd2 (f_X1_isFranchisee E p0 p1 h2) fun x7 h5 =>
  (zgd .boolean x7).bind fun _ =>
  (sI h5 q1 3 (0 : Int32) x7).bind fun h9 =>
  (cko h9 p0 0).bind fun _ =>
  bnd2 (f_X1_isPlan E p0 p2 h9) fun x14 h12 =>
  (zgd .boolean x14).bind fun _ =>
  (sI h12 q1 3 (1 : Int32) x14).bind fun h16 =>
  bnd2 (f_X1_requireIndex E q1 h16) fun x20 h18 =>
  Sum.elim (fun x21 => (
    (cko h18 p0 0).bind fun _ =>
    bnd2 (f_X1_franchisee E p0 p1 h18) fun x26 h24 =>
    Sum.elim (fun x27 => (
      (gI h24 x27 10 3).bind fun x29 =>
      (cko h24 p0 0).bind fun _ =>
      bnd2 (f_X1_franchisee E p0 p1 h24) fun x34 h32 =>
      Sum.elim (fun x35 => (
        (pF h32 x35 10 3 (.int p2)).bind fun h37 =>
        some (.inl x29, h37)
      )) (fun q36 => (
        some (.inr q36, h32)
      )) x34
    )) (fun q28 => (
      some (.inr q28, h24)
    )) x26
  )) (fun q22 => (
    some (.inr q22, h18)
  )) x20
theorem w_X1_setPlan_b0 (C0 : zCx p l e R s m args below meth c D B0 4 "FranchiseLedger" cX1_setPlan E 11 175 (Option.some Jvm.ClassFile.FieldType.int) "setPlan") (hno : ∀ x ∈ c.exceptionTable.toList, False) {r : (Int32 ⊕ (Nat × Nat))} {h' : zH} {p0 : Nat} {p1 : Int32} {p2 : Int32} {h : zH} (hf : f_X1_setPlan_b0 E p0 p1 p2 h = some (r, h')) : zW p l e R s m args below meth c D B0 4 (zEnd D B0 R below args s (zoT zoI r) h') h 0 [(0, .ref p0), (1, .int p1), (2, .int p2)] [] := by
  unfold f_X1_setPlan_b0 at hf
  refine zr_iconst C0 (v := 2) dX1_setPlan_0 (by decide) ?_
  obtain ⟨q1, h2, e3, hf⟩ := zbind2 hf
  refine zr_newa C0 (atype := .boolean) (t := 3) q627 rfl (by decide) (fun _ => rfl) dX1_setPlan_1 e3 ?_
  refine zr_dup C0 dX1_setPlan_3 rfl ?_
  refine zr_iconst C0 (v := 0) dX1_setPlan_4 (by decide) ?_
  refine zr_aload_n C0 dX1_setPlan_5 rfl 0 rfl ?_
  refine zr_iload_n C0 dX1_setPlan_6 rfl 1 rfl ?_
  obtain ⟨_, e4, hf⟩ := zbind hf
  obtain ⟨x7, h5, e6, hf⟩ := zbind2 hf
  refine zr_callV_r C0 cv_X1_88_X1 rfl (zcko e4) (m_X1_isFranchisee C0.2.2.2.2.2.2.1 e6) (by decide) (by decide) rfl rfl (Nat.le_of_ble_eq_true rfl) dX1_setPlan_7 rfl ?_
  obtain ⟨_, e8, hf⟩ := zbind hf
  obtain ⟨h9, e10, hf⟩ := zbind hf
  refine zr_zast C0 dX1_setPlan_10 (zgd_b e8) e10 ?_
  refine zr_dup C0 dX1_setPlan_11 rfl ?_
  refine zr_iconst C0 (v := 1) dX1_setPlan_12 (by decide) ?_
  refine zr_aload_n C0 dX1_setPlan_13 rfl 0 rfl ?_
  refine zr_iload_n C0 dX1_setPlan_14 rfl 2 rfl ?_
  obtain ⟨_, e11, hf⟩ := zbind hf
  obtain ⟨x14, h12, e13, hf⟩ := zbind2 hf
  refine zr_callV_r C0 cv_X1_242_X1 rfl (zcko e11) (m_X1_isPlan C0.2.2.2.2.2.2.1 e13) (by decide) (by decide) rfl rfl (Nat.le_of_ble_eq_true rfl) dX1_setPlan_15 rfl ?_
  obtain ⟨_, e15, hf⟩ := zbind hf
  obtain ⟨h16, e17, hf⟩ := zbind hf
  refine zr_zast C0 dX1_setPlan_18 (zgd_b e15) e17 ?_
  obtain ⟨x20, h18, e19, hf⟩ := zbind2 hf
  rcases x20 with x21 | q22
  · have hf := zinl hf
    refine zr_callS_r C0 cv_X1_92 (m_X1_requireIndex C0.2.2.2.2.2.2.1 e19) (by decide) (by decide) rfl rfl (Nat.le_of_ble_eq_true rfl) dX1_setPlan_19 rfl ?_
    refine zr_aload_n C0 dX1_setPlan_22 rfl 0 rfl ?_
    refine zr_iload_n C0 dX1_setPlan_23 rfl 1 rfl ?_
    obtain ⟨_, e23, hf⟩ := zbind hf
    obtain ⟨x26, h24, e25, hf⟩ := zbind2 hf
    rcases x26 with x27 | q28
    · have hf := zinl hf
      refine zr_callV_r C0 cv_X1_134_X1 rfl (zcko e23) (m_X1_franchisee C0.2.2.2.2.2.2.1 e25) (by decide) (by decide) rfl rfl (Nat.le_of_ble_eq_true rfl) dX1_setPlan_24 rfl ?_
      obtain ⟨x29, e30, hf⟩ := zbind hf
      refine zr_get C0 fl_X1_138_X11 dX1_setPlan_27 (zgI e30) ?_
      refine zr_istore_n (i := 3) (lv' := [(3, .int x29), (0, .ref p0), (1, .int p1), (2, .int p2)]) C0 dX1_setPlan_30 rfl (by decide) (by first | rfl | simp [zst1, zst2, zcat_rf]) ?_
      refine zr_aload_n C0 dX1_setPlan_31 rfl 1 rfl ?_
      refine zr_iload_n C0 dX1_setPlan_32 rfl 2 rfl ?_
      obtain ⟨_, e31, hf⟩ := zbind hf
      obtain ⟨x34, h32, e33, hf⟩ := zbind2 hf
      rcases x34 with x35 | q36
      · have hf := zinl hf
        refine zr_callV_r C0 cv_X1_134_X1 rfl (zcko e31) (m_X1_franchisee C0.2.2.2.2.2.2.1 e33) (by decide) (by decide) rfl rfl (Nat.le_of_ble_eq_true rfl) dX1_setPlan_33 rfl ?_
        refine zr_iload_n C0 dX1_setPlan_36 rfl 3 rfl ?_
        obtain ⟨h37, e38, hf⟩ := zbind hf
        refine zr_put C0 pl_X1_138_X11 dX1_setPlan_37 (fun h => by cases h) rfl rfl e38 ?_
        refine zr_iload_n C0 dX1_setPlan_40 rfl 0 rfl ?_
        refine zretW hf ?_
        exact zr_iret C0 (ty := .int) rfl rfl dX1_setPlan_41 rfl
      · have hf := zinr hf
        refine zretW hf ?_
        exact zr_callV_t C0 cv_X1_134_X1 rfl (zcko e31) (m_X1_franchisee C0.2.2.2.2.2.2.1 e33) (by decide) (by decide) rfl rfl (Nat.le_of_ble_eq_true rfl) dX1_setPlan_33 (zr_out C0 hno rfl)
    · have hf := zinr hf
      refine zretW hf ?_
      exact zr_callV_t C0 cv_X1_134_X1 rfl (zcko e23) (m_X1_franchisee C0.2.2.2.2.2.2.1 e25) (by decide) (by decide) rfl rfl (Nat.le_of_ble_eq_true rfl) dX1_setPlan_24 (zr_out C0 hno rfl)
  · have hf := zinr hf
    refine zretW hf ?_
    exact zr_callS_t C0 cv_X1_92 (m_X1_requireIndex C0.2.2.2.2.2.2.1 e19) (by decide) (by decide) rfl rfl (Nat.le_of_ble_eq_true rfl) dX1_setPlan_19 (zr_out C0 hno rfl)
def f_X1_setPlan (E : zE) (p0 : Nat) (p1 : Int32) (p2 : Int32) (h : zH) : Option ((Int32 ⊕ (Nat × Nat)) × zH) := f_X1_setPlan_b0 E p0 p1 p2 h
theorem m_X1_setPlan {l : Launch} (hst : l.stackTraces = false) {D : zD} {B0 : Nat} {E : zE} {p0 : Nat} {p1 : Int32} {p2 : Int32} {h h' : zH} {r : (Int32 ⊕ (Nat × Nat))} (hf : f_X1_setPlan E p0 p1 p2 h = some (r, h')) : zMet l yX1_setPlan (ws_ yX1_setPlan cX1_setPlan 4 (Option.some Jvm.ClassFile.FieldType.int)) 11 175 D B0 E [.ref p0, .int p1, .int p2] h (zoT zoI r) h' := by
  unfold f_X1_setPlan at hf
  refine zMet_of hst (by decide +kernel) rfl rfl (Nat.le_of_ble_eq_true rfl) (fun p e R s m below meth c C0 hno => ?_)
  show zW _ _ _ _ _ _ _ _ _ _ _ _ _ _ _ _ [(0, .ref p0), (1, .int p1), (2, .int p2)] []
  exact w_X1_setPlan_b0 C0 hno hf
def f_X9_cost_b0 (E : zE) (p0 : Nat) (p1 : Int64) (h : zH) : Option (Int64 × zH) :=
  (cko h p0 8).bind fun _ =>
  bnd2 (f_X9_royalty E p0 p1 h) fun x4 h2 =>
  (gR h2 p0 8 0).bind fun x5 =>
  (cko h2 x5 3).bind fun _ =>
  bnd2 (f_X16_of E x5 p1 h2) fun x10 h8 =>
  some ((x4 + x10), h8)
theorem w_X9_cost_b0 (C0 : zCx p l e R s m args below meth c D B0 3 "FranchiseLedger$Plan" cX9_cost E 5 153 (Option.some Jvm.ClassFile.FieldType.long) "cost") {r : Int64} {h' : zH} {p0 : Nat} {p1 : Int64} {h : zH} (hf : f_X9_cost_b0 E p0 p1 h = some (r, h')) : zW p l e R s m args below meth c D B0 3 (zEnd D B0 R below args s (zoL r) h') h 0 [(0, .ref p0), (1, .long p1)] [] := by
  unfold f_X9_cost_b0 at hf
  refine zr_aload_n C0 dX9_cost_0 rfl 0 rfl ?_
  refine zr_lload_n C0 dX9_cost_1 rfl 1 rfl ?_
  obtain ⟨_, e1, hf⟩ := zbind hf
  obtain ⟨x4, h2, e3, hf⟩ := zbind2 hf
  refine zr_callV_r C0 cv_X9_63_X9 rfl (zcko e1) (m_X9_royalty C0.2.2.2.2.2.2.1 e3) (by decide) (by decide) rfl rfl (Nat.le_of_ble_eq_true rfl) dX9_cost_2 rfl ?_
  refine zr_aload_n C0 dX9_cost_5 rfl 0 rfl ?_
  obtain ⟨x5, e6, hf⟩ := zbind hf
  refine zr_get C0 fl_X9_21_X9 dX9_cost_6 (zgR e6) ?_
  refine zr_lload_n C0 dX9_cost_9 rfl 1 rfl ?_
  obtain ⟨_, e7, hf⟩ := zbind hf
  obtain ⟨x10, h8, e9, hf⟩ := zbind2 hf
  refine zr_callD_r C0 (by decide +kernel) (zcko e7) (m_X16_of C0.2.2.2.2.2.2.1 e9) (by decide) (by decide) rfl rfl (Nat.le_of_ble_eq_true rfl) dX9_cost_10 rfl ?_
  refine zr_ladd C0 dX9_cost_13 ?_
  refine zretW hf ?_
  exact zr_lret C0 rfl dX9_cost_14 rfl
def f_X9_cost (E : zE) (p0 : Nat) (p1 : Int64) (h : zH) : Option (Int64 × zH) := f_X9_cost_b0 E p0 p1 h
theorem m_X9_cost {l : Launch} (hst : l.stackTraces = false) {D : zD} {B0 : Nat} {E : zE} {p0 : Nat} {p1 : Int64} {h h' : zH} {r : Int64} (hf : f_X9_cost E p0 p1 h = some (r, h')) : zMet l yX9_cost (ws_ yX9_cost cX9_cost 3 (Option.some Jvm.ClassFile.FieldType.long)) 5 153 D B0 E [.ref p0, .long p1] h (zoL r) h' := by
  unfold f_X9_cost at hf
  refine zMet_of hst (by decide +kernel) rfl rfl (Nat.le_of_ble_eq_true rfl) (fun p e R s m below meth c C0 hno => ?_)
  show zW _ _ _ _ _ _ _ _ _ _ _ _ _ _ _ _ [(0, .ref p0), (1, .long p1)] []
  exact w_X9_cost_b0 C0 hf
def f_X1_cheapest_b55 (E : zE) (k5 : Nat → Int64 → Int32 → Int32 → zH → Option (Int32 × zH)) (p0 : Nat) (p1 : Int64) (p4 : Int32) (s0 : Int32) (h : zH) : Option (Int32 × zH) :=
  k5 p0 p1 s0 (p4 + 1) h
theorem w_X1_cheapest_b55 (C0 : zCx p l e R s m args below meth c D B0 5 "FranchiseLedger" cX1_cheapest E 6 175 (Option.some Jvm.ClassFile.FieldType.int) "cheapest") {r : Int32} {h' : zH} {k5 : Nat → Int64 → Int32 → Int32 → zH → Option (Int32 × zH)} (hk5 : ∀ (p0 : Nat) (p1 : Int64) (p3 : Int32) (p4 : Int32) (h : zH), k5 p0 p1 p3 p4 h = some (r, h') → zW p l e R s m args below meth c D B0 5 (zEnd D B0 R below args s (zoI r) h') h 5 [(0, .ref p0), (1, .long p1), (3, .int p3), (4, .int p4)] []) {p0 : Nat} {p1 : Int64} {p4 : Int32} {s0 : Int32} {h : zH} (hf : f_X1_cheapest_b55 E k5 p0 p1 p4 s0 h = some (r, h')) : zW p l e R s m args below meth c D B0 5 (zEnd D B0 R below args s (zoI r) h') h 55 [(0, .ref p0), (1, .long p1), (4, .int p4)] [.int s0] := by
  unfold f_X1_cheapest_b55 at hf
  refine zr_istore_n (i := 3) (lv' := [(3, .int s0), (0, .ref p0), (1, .long p1), (4, .int p4)]) C0 dX1_cheapest_55 rfl (by decide) (by first | rfl | simp [zst1, zst2, zcat_rf]) ?_
  refine zr_iinc (lv' := [(4, .int (p4 + 1)), (3, .int s0), (0, .ref p0), (1, .long p1)]) C0 dX1_cheapest_56 3 rfl rfl (by decide) (by first | rfl | simp [zst1, zst2, zcat_rf]) ?_
  refine zr_goto C0 (tgt := 5) dX1_cheapest_59 (by decide) ?_
  refine zr_sub [2, 3, 1, 0] rfl ?_
  exact hk5 _ _ _ _ _ hf
def f_X1_cheapest_l5 (E : zE) : Nat → Nat → Int64 → Int32 → Int32 → zH → Option (Int32 × zH)
  | 0, _, _, _, _, _ => none
  | n + 1, p0, p1, p3, p4, h =>
    (cko h p0 15).bind fun _ =>
    bnd2 (f_J2_size E p0 h) fun x4 h2 =>
    if x4 ≤ p4 then (
      some (p3, h2)
    ) else (
      (cko h2 p0 15).bind fun _ =>
      bnd2 (f_J2_get E p0 p4 h2) fun x9 h7 =>
      (cko h7 x9 8).bind fun _ =>
      (cko h7 x9 8).bind fun _ =>
      bnd2 (f_X9_cost E x9 p1 h7) fun x14 h12 =>
      (cko h12 p0 15).bind fun _ =>
      bnd2 (f_J2_get E p0 p3 h12) fun x18 h16 =>
      (cko h16 x18 8).bind fun _ =>
      (cko h16 x18 8).bind fun _ =>
      bnd2 (f_X9_cost E x18 p1 h16) fun x23 h21 =>
      if x23 ≤ x14 then (
        f_X1_cheapest_b55 E (f_X1_cheapest_l5 E n) p0 p1 p4 p3 h21
      ) else (
        f_X1_cheapest_b55 E (f_X1_cheapest_l5 E n) p0 p1 p4 p4 h21
      )
    )
theorem w_X1_cheapest_l5 (C0 : zCx p l e R s m args below meth c D B0 5 "FranchiseLedger" cX1_cheapest E 6 175 (Option.some Jvm.ClassFile.FieldType.int) "cheapest") {r : Int32} {h' : zH} : ∀ (n : Nat) (p0 : Nat) (p1 : Int64) (p3 : Int32) (p4 : Int32) (h : zH), f_X1_cheapest_l5 E n p0 p1 p3 p4 h = some (r, h') → zW p l e R s m args below meth c D B0 5 (zEnd D B0 R below args s (zoI r) h') h 5 [(0, .ref p0), (1, .long p1), (3, .int p3), (4, .int p4)] [] := by
  intro n
  induction n with
  | zero =>
    intro p0 p1 p3 p4 h hf
    unfold f_X1_cheapest_l5 at hf
    cases hf
  | succ n ih =>
    intro p0 p1 p3 p4 h hf
    unfold f_X1_cheapest_l5 at hf
    refine zr_iload C0 dX1_cheapest_5 3 rfl ?_
    refine zr_aload_n C0 dX1_cheapest_7 rfl 0 rfl ?_
    obtain ⟨_, e1, hf⟩ := zbind hf
    obtain ⟨x4, h2, e3, hf⟩ := zbind2 hf
    refine zr_callF_r C0 cv_X1_78_J2 rfl (zcko e1) (m_J2_size C0.2.2.2.2.2.2.1 e3) (by decide) (by decide) rfl rfl (Nat.le_of_ble_eq_true rfl) dX1_cheapest_8 rfl ?_
    refine zr_icmp_ge C0 (tgt := 62) dX1_cheapest_13 (by decide) (fun c5 => ?_) (fun c5 => ?_)
    · have hf := zif_t c5 hf
      refine zr_iload_n C0 dX1_cheapest_62 rfl 2 rfl ?_
      refine zretW hf ?_
      exact zr_iret C0 (ty := .int) rfl rfl dX1_cheapest_63 rfl
    · have hf := zif_f c5 hf
      refine zr_aload_n C0 dX1_cheapest_16 rfl 0 rfl ?_
      refine zr_iload C0 dX1_cheapest_17 3 rfl ?_
      obtain ⟨_, e6, hf⟩ := zbind hf
      obtain ⟨x9, h7, e8, hf⟩ := zbind2 hf
      refine zr_callF_r C0 cv_X1_96_J2 rfl (zcko e6) (m_J2_get C0.2.2.2.2.2.2.1 e8) (by decide) (by decide) rfl rfl (Nat.le_of_ble_eq_true rfl) dX1_cheapest_19 rfl ?_
      obtain ⟨_, e10, hf⟩ := zbind hf
      refine zr_castS C0 (ci := 8) rfl (zcko e10) q2184 dX1_cheapest_24 ?_
      refine zr_lload_n C0 dX1_cheapest_27 rfl 1 rfl ?_
      obtain ⟨_, e11, hf⟩ := zbind hf
      obtain ⟨x14, h12, e13, hf⟩ := zbind2 hf
      refine zr_callV_r C0 cv_X1_251_X9 rfl (zcko e11) (m_X9_cost C0.2.2.2.2.2.2.1 e13) (by decide) (by decide) rfl rfl (Nat.le_of_ble_eq_true rfl) dX1_cheapest_28 rfl ?_
      refine zr_aload_n C0 dX1_cheapest_31 rfl 0 rfl ?_
      refine zr_iload_n C0 dX1_cheapest_32 rfl 2 rfl ?_
      obtain ⟨_, e15, hf⟩ := zbind hf
      obtain ⟨x18, h16, e17, hf⟩ := zbind2 hf
      refine zr_callF_r C0 cv_X1_96_J2 rfl (zcko e15) (m_J2_get C0.2.2.2.2.2.2.1 e17) (by decide) (by decide) rfl rfl (Nat.le_of_ble_eq_true rfl) dX1_cheapest_33 rfl ?_
      obtain ⟨_, e19, hf⟩ := zbind hf
      refine zr_castS C0 (ci := 8) rfl (zcko e19) q2184 dX1_cheapest_38 ?_
      refine zr_lload_n C0 dX1_cheapest_41 rfl 1 rfl ?_
      obtain ⟨_, e20, hf⟩ := zbind hf
      obtain ⟨x23, h21, e22, hf⟩ := zbind2 hf
      refine zr_callV_r C0 cv_X1_251_X9 rfl (zcko e20) (m_X9_cost C0.2.2.2.2.2.2.1 e22) (by decide) (by decide) rfl rfl (Nat.le_of_ble_eq_true rfl) dX1_cheapest_42 rfl ?_
      refine zr_lcmp C0 dX1_cheapest_45 ?_
      refine zr_if_ge C0 (tgt := 54) dX1_cheapest_46 (by decide) (fun c24 => ?_) (fun c24 => ?_)
      · have hf := zif_t (zl_ge.mp c24) hf
        refine zr_iload_n C0 dX1_cheapest_54 rfl 2 rfl ?_
        refine zr_sub [0, 1, 3] rfl ?_
        exact w_X1_cheapest_b55 C0 ih hf
      · have hf := zif_f (zl_gen.mp c24) hf
        refine zr_iload C0 dX1_cheapest_49 3 rfl ?_
        refine zr_goto C0 (tgt := 55) dX1_cheapest_51 (by decide) ?_
        refine zr_sub [0, 1, 3] rfl ?_
        exact w_X1_cheapest_b55 C0 ih hf
def f_X1_cheapest_b0 (E : zE) (p0 : Nat) (p1 : Int64) (h : zH) : Option (Int32 × zH) :=
  f_X1_cheapest_l5 E E.1 p0 p1 (0 : Int32) (1 : Int32) h
theorem w_X1_cheapest_b0 (C0 : zCx p l e R s m args below meth c D B0 5 "FranchiseLedger" cX1_cheapest E 6 175 (Option.some Jvm.ClassFile.FieldType.int) "cheapest") {r : Int32} {h' : zH} {p0 : Nat} {p1 : Int64} {h : zH} (hf : f_X1_cheapest_b0 E p0 p1 h = some (r, h')) : zW p l e R s m args below meth c D B0 5 (zEnd D B0 R below args s (zoI r) h') h 0 [(0, .ref p0), (1, .long p1)] [] := by
  unfold f_X1_cheapest_b0 at hf
  refine zr_iconst C0 (v := 0) dX1_cheapest_0 (by decide) ?_
  refine zr_istore_n (i := 3) (lv' := [(3, .int (0 : Int32)), (0, .ref p0), (1, .long p1)]) C0 dX1_cheapest_1 rfl (by decide) (by first | rfl | simp [zst1, zst2, zcat_rf]) ?_
  refine zr_iconst C0 (v := 1) dX1_cheapest_2 (by decide) ?_
  refine zr_istore (i := 4) (lv' := [(4, .int (1 : Int32)), (3, .int (0 : Int32)), (0, .ref p0), (1, .long p1)]) C0 dX1_cheapest_3 (by decide) (by first | rfl | simp [zst1, zst2, zcat_rf]) ?_
  refine zr_sub [2, 3, 1, 0] rfl ?_
  exact w_X1_cheapest_l5 C0 _ _ _ _ _ _ hf
def f_X1_cheapest (E : zE) (p0 : Nat) (p1 : Int64) (h : zH) : Option (Int32 × zH) := f_X1_cheapest_b0 E p0 p1 h
theorem m_X1_cheapest {l : Launch} (hst : l.stackTraces = false) {D : zD} {B0 : Nat} {E : zE} {p0 : Nat} {p1 : Int64} {h h' : zH} {r : Int32} (hf : f_X1_cheapest E p0 p1 h = some (r, h')) : zMet l yX1_cheapest (ws_ yX1_cheapest cX1_cheapest 5 (Option.some Jvm.ClassFile.FieldType.int)) 6 175 D B0 E [.ref p0, .long p1] h (zoI r) h' := by
  unfold f_X1_cheapest at hf
  refine zMet_of hst (by decide +kernel) rfl rfl (Nat.le_of_ble_eq_true rfl) (fun p e R s m below meth c C0 hno => ?_)
  show zW _ _ _ _ _ _ _ _ _ _ _ _ _ _ _ _ [(0, .ref p0), (1, .long p1)] []
  exact w_X1_cheapest_b0 C0 hf
def f_X1_cheapestPlan_b0 (E : zE) (p0 : Nat) (p1 : Int32) (h : zH) : Option ((Int32 ⊕ (Nat × Nat)) × zH) :=
  bnd2 (nA h 3 (1 : Int32) (.inl fun _ => 0)) fun q1 h2 =>
  (cko h2 p0 0).bind fun _ =>
  bnd2 (f_X1_isFranchisee E p0 p1 h2) fun x7 h5 =>
  (zgd .boolean x7).bind fun _ =>
  (sI h5 q1 3 (0 : Int32) x7).bind fun h9 =>
  bnd2 (f_X1_requireIndex E q1 h9) fun x13 h11 =>
  Sum.elim (fun x14 => (
    (gR h11 p0 0 0).bind fun x16 =>
    (gR h11 x16 2 0).bind fun x18 =>
    (gR h11 p0 0 1).bind fun x20 =>
    (cko h11 x20 4).bind fun _ =>
    bnd2 (f_X4_sales E x20 p1 (100 : Int32) h11) fun x25 h23 =>
    bnd2 (f_X1_cheapest E x18 x25 h23) fun x28 h26 =>
    some (.inl x28, h26)
  )) (fun q15 => (
    some (.inr q15, h11)
  )) x13
theorem w_X1_cheapestPlan_b0 (C0 : zCx p l e R s m args below meth c D B0 2 "FranchiseLedger" cX1_cheapestPlan E 10 199 (Option.some Jvm.ClassFile.FieldType.int) "cheapestPlan") (hno : ∀ x ∈ c.exceptionTable.toList, False) {r : (Int32 ⊕ (Nat × Nat))} {h' : zH} {p0 : Nat} {p1 : Int32} {h : zH} (hf : f_X1_cheapestPlan_b0 E p0 p1 h = some (r, h')) : zW p l e R s m args below meth c D B0 2 (zEnd D B0 R below args s (zoT zoI r) h') h 0 [(0, .ref p0), (1, .int p1)] [] := by
  unfold f_X1_cheapestPlan_b0 at hf
  refine zr_iconst C0 (v := 1) dX1_cheapestPlan_0 (by decide) ?_
  obtain ⟨q1, h2, e3, hf⟩ := zbind2 hf
  refine zr_newa C0 (atype := .boolean) (t := 3) q627 rfl (by decide) (fun _ => rfl) dX1_cheapestPlan_1 e3 ?_
  refine zr_dup C0 dX1_cheapestPlan_3 rfl ?_
  refine zr_iconst C0 (v := 0) dX1_cheapestPlan_4 (by decide) ?_
  refine zr_aload_n C0 dX1_cheapestPlan_5 rfl 0 rfl ?_
  refine zr_iload_n C0 dX1_cheapestPlan_6 rfl 1 rfl ?_
  obtain ⟨_, e4, hf⟩ := zbind hf
  obtain ⟨x7, h5, e6, hf⟩ := zbind2 hf
  refine zr_callV_r C0 cv_X1_88_X1 rfl (zcko e4) (m_X1_isFranchisee C0.2.2.2.2.2.2.1 e6) (by decide) (by decide) rfl rfl (Nat.le_of_ble_eq_true rfl) dX1_cheapestPlan_7 rfl ?_
  obtain ⟨_, e8, hf⟩ := zbind hf
  obtain ⟨h9, e10, hf⟩ := zbind hf
  refine zr_zast C0 dX1_cheapestPlan_10 (zgd_b e8) e10 ?_
  obtain ⟨x13, h11, e12, hf⟩ := zbind2 hf
  rcases x13 with x14 | q15
  · have hf := zinl hf
    refine zr_callS_r C0 cv_X1_92 (m_X1_requireIndex C0.2.2.2.2.2.2.1 e12) (by decide) (by decide) rfl rfl (Nat.le_of_ble_eq_true rfl) dX1_cheapestPlan_11 rfl ?_
    refine zr_aload_n C0 dX1_cheapestPlan_14 rfl 0 rfl ?_
    obtain ⟨x16, e17, hf⟩ := zbind hf
    refine zr_get C0 fl_X1_30_X1 dX1_cheapestPlan_15 (zgR e17) ?_
    obtain ⟨x18, e19, hf⟩ := zbind hf
    refine zr_get C0 fl_X1_117_X2 dX1_cheapestPlan_18 (zgR e19) ?_
    refine zr_aload_n C0 dX1_cheapestPlan_21 rfl 0 rfl ?_
    obtain ⟨x20, e21, hf⟩ := zbind hf
    refine zr_get C0 fl_X1_39_X1 dX1_cheapestPlan_22 (zgR e21) ?_
    refine zr_iload_n C0 dX1_cheapestPlan_25 rfl 1 rfl ?_
    refine zr_bipush C0 (v := 100) dX1_cheapestPlan_26 (by decide) ?_
    obtain ⟨_, e22, hf⟩ := zbind hf
    obtain ⟨x25, h23, e24, hf⟩ := zbind2 hf
    refine zr_callV_r C0 cv_X1_254_X4 rfl (zcko e22) (m_X4_sales C0.2.2.2.2.2.2.1 e24) (by decide) (by decide) rfl rfl (Nat.le_of_ble_eq_true rfl) dX1_cheapestPlan_28 rfl ?_
    obtain ⟨x28, h26, e27, hf⟩ := zbind2 hf
    refine zr_callS_r C0 cv_X1_258 (m_X1_cheapest C0.2.2.2.2.2.2.1 e27) (by decide) (by decide) rfl rfl (Nat.le_of_ble_eq_true rfl) dX1_cheapestPlan_31 rfl ?_
    refine zretW hf ?_
    exact zr_iret C0 (ty := .int) rfl rfl dX1_cheapestPlan_34 rfl
  · have hf := zinr hf
    refine zretW hf ?_
    exact zr_callS_t C0 cv_X1_92 (m_X1_requireIndex C0.2.2.2.2.2.2.1 e12) (by decide) (by decide) rfl rfl (Nat.le_of_ble_eq_true rfl) dX1_cheapestPlan_11 (zr_out C0 hno rfl)
def f_X1_cheapestPlan (E : zE) (p0 : Nat) (p1 : Int32) (h : zH) : Option ((Int32 ⊕ (Nat × Nat)) × zH) := f_X1_cheapestPlan_b0 E p0 p1 h
theorem m_X1_cheapestPlan {l : Launch} (hst : l.stackTraces = false) {D : zD} {B0 : Nat} {E : zE} {p0 : Nat} {p1 : Int32} {h h' : zH} {r : (Int32 ⊕ (Nat × Nat))} (hf : f_X1_cheapestPlan E p0 p1 h = some (r, h')) : zMet l yX1_cheapestPlan (ws_ yX1_cheapestPlan cX1_cheapestPlan 2 (Option.some Jvm.ClassFile.FieldType.int)) 10 199 D B0 E [.ref p0, .int p1] h (zoT zoI r) h' := by
  unfold f_X1_cheapestPlan at hf
  refine zMet_of hst (by decide +kernel) rfl rfl (Nat.le_of_ble_eq_true rfl) (fun p e R s m below meth c C0 hno => ?_)
  show zW _ _ _ _ _ _ _ _ _ _ _ _ _ _ _ _ [(0, .ref p0), (1, .int p1)] []
  exact w_X1_cheapestPlan_b0 C0 hno hf
def f_X1_sales_b0 (E : zE) (p0 : Nat) (p1 : Int32) (h : zH) : Option ((Int64 ⊕ (Nat × Nat)) × zH) :=
  (cko h p0 0).bind fun _ =>
  bnd2 (f_X1_outlet E p0 p1 h) fun x4 h2 =>
  Sum.elim (fun x5 => (
    (gL h2 x5 13 2).bind fun x7 =>
    some (.inl x7, h2)
  )) (fun q6 => (
    some (.inr q6, h2)
  )) x4
theorem w_X1_sales_b0 (C0 : zCx p l e R s m args below meth c D B0 2 "FranchiseLedger" cX1_sales E 11 175 (Option.some Jvm.ClassFile.FieldType.long) "sales") (hno : ∀ x ∈ c.exceptionTable.toList, False) {r : (Int64 ⊕ (Nat × Nat))} {h' : zH} {p0 : Nat} {p1 : Int32} {h : zH} (hf : f_X1_sales_b0 E p0 p1 h = some (r, h')) : zW p l e R s m args below meth c D B0 2 (zEnd D B0 R below args s (zoT zoL r) h') h 0 [(0, .ref p0), (1, .int p1)] [] := by
  unfold f_X1_sales_b0 at hf
  refine zr_aload_n C0 dX1_sales_0 rfl 0 rfl ?_
  refine zr_iload_n C0 dX1_sales_1 rfl 1 rfl ?_
  obtain ⟨_, e1, hf⟩ := zbind hf
  obtain ⟨x4, h2, e3, hf⟩ := zbind2 hf
  rcases x4 with x5 | q6
  · have hf := zinl hf
    refine zr_callV_r C0 cv_X1_121_X1 rfl (zcko e1) (m_X1_outlet C0.2.2.2.2.2.2.1 e3) (by decide) (by decide) rfl rfl (Nat.le_of_ble_eq_true rfl) dX1_sales_2 rfl ?_
    obtain ⟨x7, e8, hf⟩ := zbind hf
    refine zr_get C0 fl_X1_272_X14 dX1_sales_5 (zgL e8) ?_
    refine zretW hf ?_
    exact zr_lret C0 rfl dX1_sales_8 rfl
  · have hf := zinr hf
    refine zretW hf ?_
    exact zr_callV_t C0 cv_X1_121_X1 rfl (zcko e1) (m_X1_outlet C0.2.2.2.2.2.2.1 e3) (by decide) (by decide) rfl rfl (Nat.le_of_ble_eq_true rfl) dX1_sales_2 (zr_out C0 hno rfl)
def f_X1_sales (E : zE) (p0 : Nat) (p1 : Int32) (h : zH) : Option ((Int64 ⊕ (Nat × Nat)) × zH) := f_X1_sales_b0 E p0 p1 h
theorem m_X1_sales {l : Launch} (hst : l.stackTraces = false) {D : zD} {B0 : Nat} {E : zE} {p0 : Nat} {p1 : Int32} {h h' : zH} {r : (Int64 ⊕ (Nat × Nat))} (hf : f_X1_sales E p0 p1 h = some (r, h')) : zMet l yX1_sales (ws_ yX1_sales cX1_sales 2 (Option.some Jvm.ClassFile.FieldType.long)) 11 175 D B0 E [.ref p0, .int p1] h (zoT zoL r) h' := by
  unfold f_X1_sales at hf
  refine zMet_of hst (by decide +kernel) rfl rfl (Nat.le_of_ble_eq_true rfl) (fun p e R s m below meth c C0 hno => ?_)
  show zW _ _ _ _ _ _ _ _ _ _ _ _ _ _ _ _ [(0, .ref p0), (1, .int p1)] []
  exact w_X1_sales_b0 C0 hno hf
def f_X1_isClosed_b0 (E : zE) (p0 : Nat) (p1 : Int32) (h : zH) : Option (Int32 × zH) :=
  (gR h p0 0 1).bind fun x1 =>
  (gI h x1 4 5).bind fun x3 =>
  bnd2 (f_X1_inRange E (p1.toInt64) (0 : Int64) ((x3 - (1 : Int32)).toInt64) h) fun x7 h5 =>
  (zgd .boolean x7).bind fun _ =>
  some (x7, h5)
theorem w_X1_isClosed_b0 (C0 : zCx p l e R s m args below meth c D B0 2 "FranchiseLedger" cX1_isClosed E 2 85 (Option.some Jvm.ClassFile.FieldType.boolean) "isClosed") {r : Int32} {h' : zH} {p0 : Nat} {p1 : Int32} {h : zH} (hf : f_X1_isClosed_b0 E p0 p1 h = some (r, h')) : zW p l e R s m args below meth c D B0 2 (zEnd D B0 R below args s (zoI r) h') h 0 [(0, .ref p0), (1, .int p1)] [] := by
  unfold f_X1_isClosed_b0 at hf
  refine zr_iload_n C0 dX1_isClosed_0 rfl 1 rfl ?_
  refine zr_i2l C0 dX1_isClosed_1 ?_
  refine zr_lconst C0 (v := 0) dX1_isClosed_2 (by decide) ?_
  refine zr_aload_n C0 dX1_isClosed_3 rfl 0 rfl ?_
  obtain ⟨x1, e2, hf⟩ := zbind hf
  refine zr_get C0 fl_X1_39_X1 dX1_isClosed_4 (zgR e2) ?_
  obtain ⟨x3, e4, hf⟩ := zbind hf
  refine zr_get C0 fl_X1_111_X4 dX1_isClosed_7 (zgI e4) ?_
  refine zr_iconst C0 (v := 1) dX1_isClosed_10 (by decide) ?_
  refine zr_isub C0 dX1_isClosed_11 ?_
  refine zr_i2l C0 dX1_isClosed_12 ?_
  obtain ⟨x7, h5, e6, hf⟩ := zbind2 hf
  refine zr_callS_r C0 cv_X1_84 (m_X1_inRange C0.2.2.2.2.2.2.1 e6) (by decide) (by decide) rfl rfl (Nat.le_of_ble_eq_true rfl) dX1_isClosed_13 rfl ?_
  obtain ⟨_, e8, hf⟩ := zbind hf
  refine zretW hf ?_
  exact zr_iret C0 (ty := .boolean) rfl (zgd_n e8) dX1_isClosed_16 rfl
def f_X1_isClosed (E : zE) (p0 : Nat) (p1 : Int32) (h : zH) : Option (Int32 × zH) := f_X1_isClosed_b0 E p0 p1 h
theorem m_X1_isClosed {l : Launch} (hst : l.stackTraces = false) {D : zD} {B0 : Nat} {E : zE} {p0 : Nat} {p1 : Int32} {h h' : zH} {r : Int32} (hf : f_X1_isClosed E p0 p1 h = some (r, h')) : zMet l yX1_isClosed (ws_ yX1_isClosed cX1_isClosed 2 (Option.some Jvm.ClassFile.FieldType.boolean)) 2 85 D B0 E [.ref p0, .int p1] h (zoI r) h' := by
  unfold f_X1_isClosed at hf
  refine zMet_of hst (by decide +kernel) rfl rfl (Nat.le_of_ble_eq_true rfl) (fun p e R s m below meth c C0 hno => ?_)
  show zW _ _ _ _ _ _ _ _ _ _ _ _ _ _ _ _ [(0, .ref p0), (1, .int p1)] []
  exact w_X1_isClosed_b0 C0 hf
def f_X1_salesOf_b0 (E : zE) (p0 : Nat) (p1 : Int32) (p2 : Int32) (h : zH) : Option ((Int64 ⊕ (Nat × Nat)) × zH) :=
  (cko h p0 0).bind fun _ =>
  bnd2 (f_X1_franchisee E p0 p1 h) fun x4 h2 =>
  Sum.elim (fun x5 => (
    bnd2 (nA h2 3 (1 : Int32) (.inl fun _ => 0)) fun q7 h8 =>
    (cko h8 p0 0).bind fun _ =>
    bnd2 (f_X1_isClosed E p0 p2 h8) fun x13 h11 =>
    (zgd .boolean x13).bind fun _ =>
    (sI h11 q7 3 (0 : Int32) x13).bind fun h15 =>
    bnd2 (f_X1_requireArguments E q7 h15) fun x19 h17 =>
    Sum.elim (fun x20 => (
      (gR h17 x5 10 2).bind fun x22 =>
      (dL h17 x22 p2).bind fun x24 =>
      some (.inl x24, h17)
    )) (fun q21 => (
      some (.inr q21, h17)
    )) x19
  )) (fun q6 => (
    some (.inr q6, h2)
  )) x4
theorem w_X1_salesOf_b0 (C0 : zCx p l e R s m args below meth c D B0 4 "FranchiseLedger" cX1_salesOf E 11 175 (Option.some Jvm.ClassFile.FieldType.long) "salesOf") (hno : ∀ x ∈ c.exceptionTable.toList, False) {r : (Int64 ⊕ (Nat × Nat))} {h' : zH} {p0 : Nat} {p1 : Int32} {p2 : Int32} {h : zH} (hf : f_X1_salesOf_b0 E p0 p1 p2 h = some (r, h')) : zW p l e R s m args below meth c D B0 4 (zEnd D B0 R below args s (zoT zoL r) h') h 0 [(0, .ref p0), (1, .int p1), (2, .int p2)] [] := by
  unfold f_X1_salesOf_b0 at hf
  refine zr_aload_n C0 dX1_salesOf_0 rfl 0 rfl ?_
  refine zr_iload_n C0 dX1_salesOf_1 rfl 1 rfl ?_
  obtain ⟨_, e1, hf⟩ := zbind hf
  obtain ⟨x4, h2, e3, hf⟩ := zbind2 hf
  rcases x4 with x5 | q6
  · have hf := zinl hf
    refine zr_callV_r C0 cv_X1_134_X1 rfl (zcko e1) (m_X1_franchisee C0.2.2.2.2.2.2.1 e3) (by decide) (by decide) rfl rfl (Nat.le_of_ble_eq_true rfl) dX1_salesOf_2 rfl ?_
    refine zr_astore_n (i := 3) (lv' := [(3, .ref x5), (0, .ref p0), (1, .int p1), (2, .int p2)]) C0 dX1_salesOf_5 rfl (by decide) (by first | rfl | simp [zst1, zst2, zcat_rf]) ?_
    refine zr_iconst C0 (v := 1) dX1_salesOf_6 (by decide) ?_
    obtain ⟨q7, h8, e9, hf⟩ := zbind2 hf
    refine zr_newa C0 (atype := .boolean) (t := 3) q627 rfl (by decide) (fun _ => rfl) dX1_salesOf_7 e9 ?_
    refine zr_dup C0 dX1_salesOf_9 rfl ?_
    refine zr_iconst C0 (v := 0) dX1_salesOf_10 (by decide) ?_
    refine zr_aload_n C0 dX1_salesOf_11 rfl 1 rfl ?_
    refine zr_iload_n C0 dX1_salesOf_12 rfl 3 rfl ?_
    obtain ⟨_, e10, hf⟩ := zbind hf
    obtain ⟨x13, h11, e12, hf⟩ := zbind2 hf
    refine zr_callV_r C0 cv_X1_280_X1 rfl (zcko e10) (m_X1_isClosed C0.2.2.2.2.2.2.1 e12) (by decide) (by decide) rfl rfl (Nat.le_of_ble_eq_true rfl) dX1_salesOf_13 rfl ?_
    obtain ⟨_, e14, hf⟩ := zbind hf
    obtain ⟨h15, e16, hf⟩ := zbind hf
    refine zr_zast C0 dX1_salesOf_16 (zgd_b e14) e16 ?_
    obtain ⟨x19, h17, e18, hf⟩ := zbind2 hf
    rcases x19 with x20 | q21
    · have hf := zinl hf
      refine zr_callS_r C0 cv_X1_168 (m_X1_requireArguments C0.2.2.2.2.2.2.1 e18) (by decide) (by decide) rfl rfl (Nat.le_of_ble_eq_true rfl) dX1_salesOf_17 rfl ?_
      refine zr_aload_n C0 dX1_salesOf_20 rfl 0 rfl ?_
      obtain ⟨x22, e23, hf⟩ := zbind hf
      refine zr_get C0 fl_X1_283_X11 dX1_salesOf_21 (zgR e23) ?_
      refine zr_iload_n C0 dX1_salesOf_24 rfl 3 rfl ?_
      obtain ⟨x24, e25, hf⟩ := zbind hf
      refine zr_lald C0 dX1_salesOf_25 e25 ?_
      refine zretW hf ?_
      exact zr_lret C0 rfl dX1_salesOf_26 rfl
    · have hf := zinr hf
      refine zretW hf ?_
      exact zr_callS_t C0 cv_X1_168 (m_X1_requireArguments C0.2.2.2.2.2.2.1 e18) (by decide) (by decide) rfl rfl (Nat.le_of_ble_eq_true rfl) dX1_salesOf_17 (zr_out C0 hno rfl)
  · have hf := zinr hf
    refine zretW hf ?_
    exact zr_callV_t C0 cv_X1_134_X1 rfl (zcko e1) (m_X1_franchisee C0.2.2.2.2.2.2.1 e3) (by decide) (by decide) rfl rfl (Nat.le_of_ble_eq_true rfl) dX1_salesOf_2 (zr_out C0 hno rfl)
def f_X1_salesOf (E : zE) (p0 : Nat) (p1 : Int32) (p2 : Int32) (h : zH) : Option ((Int64 ⊕ (Nat × Nat)) × zH) := f_X1_salesOf_b0 E p0 p1 p2 h
theorem m_X1_salesOf {l : Launch} (hst : l.stackTraces = false) {D : zD} {B0 : Nat} {E : zE} {p0 : Nat} {p1 : Int32} {p2 : Int32} {h h' : zH} {r : (Int64 ⊕ (Nat × Nat))} (hf : f_X1_salesOf E p0 p1 p2 h = some (r, h')) : zMet l yX1_salesOf (ws_ yX1_salesOf cX1_salesOf 4 (Option.some Jvm.ClassFile.FieldType.long)) 11 175 D B0 E [.ref p0, .int p1, .int p2] h (zoT zoL r) h' := by
  unfold f_X1_salesOf at hf
  refine zMet_of hst (by decide +kernel) rfl rfl (Nat.le_of_ble_eq_true rfl) (fun p e R s m below meth c C0 hno => ?_)
  show zW _ _ _ _ _ _ _ _ _ _ _ _ _ _ _ _ [(0, .ref p0), (1, .int p1), (2, .int p2)] []
  exact w_X1_salesOf_b0 C0 hno hf
def f_X1_creditDue_b0 (E : zE) (p0 : Nat) (p1 : Int32) (p2 : Int32) (h : zH) : Option ((Int64 ⊕ (Nat × Nat)) × zH) :=
  bnd2 (nA h 3 (2 : Int32) (.inl fun _ => 0)) fun q1 h2 =>
  (cko h2 p0 0).bind fun _ =>
  bnd2 (f_X1_isFranchisee E p0 p1 h2) fun x7 h5 =>
  (zgd .boolean x7).bind fun _ =>
  (sI h5 q1 3 (0 : Int32) x7).bind fun h9 =>
  (cko h9 p0 0).bind fun _ =>
  bnd2 (f_X1_isFranchisee E p0 p2 h9) fun x14 h12 =>
  (zgd .boolean x14).bind fun _ =>
  (sI h12 q1 3 (1 : Int32) x14).bind fun h16 =>
  bnd2 (f_X1_requireIndex E q1 h16) fun x20 h18 =>
  Sum.elim (fun x21 => (
    (gR h18 p0 0 1).bind fun x23 =>
    (cko h18 x23 4).bind fun _ =>
    bnd2 (f_X4_credit E x23 p1 p2 h18) fun x28 h26 =>
    some (.inl x28, h26)
  )) (fun q22 => (
    some (.inr q22, h18)
  )) x20
theorem w_X1_creditDue_b0 (C0 : zCx p l e R s m args below meth c D B0 3 "FranchiseLedger" cX1_creditDue E 10 154 (Option.some Jvm.ClassFile.FieldType.long) "creditDue") (hno : ∀ x ∈ c.exceptionTable.toList, False) {r : (Int64 ⊕ (Nat × Nat))} {h' : zH} {p0 : Nat} {p1 : Int32} {p2 : Int32} {h : zH} (hf : f_X1_creditDue_b0 E p0 p1 p2 h = some (r, h')) : zW p l e R s m args below meth c D B0 3 (zEnd D B0 R below args s (zoT zoL r) h') h 0 [(0, .ref p0), (1, .int p1), (2, .int p2)] [] := by
  unfold f_X1_creditDue_b0 at hf
  refine zr_iconst C0 (v := 2) dX1_creditDue_0 (by decide) ?_
  obtain ⟨q1, h2, e3, hf⟩ := zbind2 hf
  refine zr_newa C0 (atype := .boolean) (t := 3) q627 rfl (by decide) (fun _ => rfl) dX1_creditDue_1 e3 ?_
  refine zr_dup C0 dX1_creditDue_3 rfl ?_
  refine zr_iconst C0 (v := 0) dX1_creditDue_4 (by decide) ?_
  refine zr_aload_n C0 dX1_creditDue_5 rfl 0 rfl ?_
  refine zr_iload_n C0 dX1_creditDue_6 rfl 1 rfl ?_
  obtain ⟨_, e4, hf⟩ := zbind hf
  obtain ⟨x7, h5, e6, hf⟩ := zbind2 hf
  refine zr_callV_r C0 cv_X1_88_X1 rfl (zcko e4) (m_X1_isFranchisee C0.2.2.2.2.2.2.1 e6) (by decide) (by decide) rfl rfl (Nat.le_of_ble_eq_true rfl) dX1_creditDue_7 rfl ?_
  obtain ⟨_, e8, hf⟩ := zbind hf
  obtain ⟨h9, e10, hf⟩ := zbind hf
  refine zr_zast C0 dX1_creditDue_10 (zgd_b e8) e10 ?_
  refine zr_dup C0 dX1_creditDue_11 rfl ?_
  refine zr_iconst C0 (v := 1) dX1_creditDue_12 (by decide) ?_
  refine zr_aload_n C0 dX1_creditDue_13 rfl 0 rfl ?_
  refine zr_iload_n C0 dX1_creditDue_14 rfl 2 rfl ?_
  obtain ⟨_, e11, hf⟩ := zbind hf
  obtain ⟨x14, h12, e13, hf⟩ := zbind2 hf
  refine zr_callV_r C0 cv_X1_88_X1 rfl (zcko e11) (m_X1_isFranchisee C0.2.2.2.2.2.2.1 e13) (by decide) (by decide) rfl rfl (Nat.le_of_ble_eq_true rfl) dX1_creditDue_15 rfl ?_
  obtain ⟨_, e15, hf⟩ := zbind hf
  obtain ⟨h16, e17, hf⟩ := zbind hf
  refine zr_zast C0 dX1_creditDue_18 (zgd_b e15) e17 ?_
  obtain ⟨x20, h18, e19, hf⟩ := zbind2 hf
  rcases x20 with x21 | q22
  · have hf := zinl hf
    refine zr_callS_r C0 cv_X1_92 (m_X1_requireIndex C0.2.2.2.2.2.2.1 e19) (by decide) (by decide) rfl rfl (Nat.le_of_ble_eq_true rfl) dX1_creditDue_19 rfl ?_
    refine zr_aload_n C0 dX1_creditDue_22 rfl 0 rfl ?_
    obtain ⟨x23, e24, hf⟩ := zbind hf
    refine zr_get C0 fl_X1_39_X1 dX1_creditDue_23 (zgR e24) ?_
    refine zr_iload_n C0 dX1_creditDue_26 rfl 1 rfl ?_
    refine zr_iload_n C0 dX1_creditDue_27 rfl 2 rfl ?_
    obtain ⟨_, e25, hf⟩ := zbind hf
    obtain ⟨x28, h26, e27, hf⟩ := zbind2 hf
    refine zr_callV_r C0 cv_X1_290_X4 rfl (zcko e25) (m_X4_credit C0.2.2.2.2.2.2.1 e27) (by decide) (by decide) rfl rfl (Nat.le_of_ble_eq_true rfl) dX1_creditDue_28 rfl ?_
    refine zretW hf ?_
    exact zr_lret C0 rfl dX1_creditDue_31 rfl
  · have hf := zinr hf
    refine zretW hf ?_
    exact zr_callS_t C0 cv_X1_92 (m_X1_requireIndex C0.2.2.2.2.2.2.1 e19) (by decide) (by decide) rfl rfl (Nat.le_of_ble_eq_true rfl) dX1_creditDue_19 (zr_out C0 hno rfl)
def f_X1_creditDue (E : zE) (p0 : Nat) (p1 : Int32) (p2 : Int32) (h : zH) : Option ((Int64 ⊕ (Nat × Nat)) × zH) := f_X1_creditDue_b0 E p0 p1 p2 h
theorem m_X1_creditDue {l : Launch} (hst : l.stackTraces = false) {D : zD} {B0 : Nat} {E : zE} {p0 : Nat} {p1 : Int32} {p2 : Int32} {h h' : zH} {r : (Int64 ⊕ (Nat × Nat))} (hf : f_X1_creditDue E p0 p1 p2 h = some (r, h')) : zMet l yX1_creditDue (ws_ yX1_creditDue cX1_creditDue 3 (Option.some Jvm.ClassFile.FieldType.long)) 10 154 D B0 E [.ref p0, .int p1, .int p2] h (zoT zoL r) h' := by
  unfold f_X1_creditDue at hf
  refine zMet_of hst (by decide +kernel) rfl rfl (Nat.le_of_ble_eq_true rfl) (fun p e R s m below meth c C0 hno => ?_)
  show zW _ _ _ _ _ _ _ _ _ _ _ _ _ _ _ _ [(0, .ref p0), (1, .int p1), (2, .int p2)] []
  exact w_X1_creditDue_b0 C0 hno hf
def f_X1_invoice_b0 (E : zE) (p0 : Nat) (p1 : Int32) (p2 : Int32) (p3 : Int32) (h : zH) : Option ((Int64 ⊕ (Nat × Nat)) × zH) :=
  (cko h p0 0).bind fun _ =>
  bnd2 (f_X1_franchisee E p0 p1 h) fun x4 h2 =>
  Sum.elim (fun x5 => (
    bnd2 (nA h2 3 (2 : Int32) (.inl fun _ => 0)) fun q7 h8 =>
    (cko h8 p0 0).bind fun _ =>
    bnd2 (f_X1_isClosed E p0 p2 h8) fun x13 h11 =>
    (zgd .boolean x13).bind fun _ =>
    (sI h11 q7 3 (0 : Int32) x13).bind fun h15 =>
    bnd2 (f_X1_inRange E (p3.toInt64) (0 : Int64) (6 : Int64) h15) fun x19 h17 =>
    (zgd .boolean x19).bind fun _ =>
    (sI h17 q7 3 (1 : Int32) x19).bind fun h21 =>
    bnd2 (f_X1_requireArguments E q7 h21) fun x25 h23 =>
    Sum.elim (fun x26 => (
      (gR h23 x5 10 1).bind fun x28 =>
      (dR h23 x28 5 p2).bind fun x30 =>
      (dL h23 x30 p3).bind fun x32 =>
      some (.inl x32, h23)
    )) (fun q27 => (
      some (.inr q27, h23)
    )) x25
  )) (fun q6 => (
    some (.inr q6, h2)
  )) x4
theorem w_X1_invoice_b0 (C0 : zCx p l e R s m args below meth c D B0 5 "FranchiseLedger" cX1_invoice E 11 175 (Option.some Jvm.ClassFile.FieldType.long) "invoice") (hno : ∀ x ∈ c.exceptionTable.toList, False) {r : (Int64 ⊕ (Nat × Nat))} {h' : zH} {p0 : Nat} {p1 : Int32} {p2 : Int32} {p3 : Int32} {h : zH} (hf : f_X1_invoice_b0 E p0 p1 p2 p3 h = some (r, h')) : zW p l e R s m args below meth c D B0 5 (zEnd D B0 R below args s (zoT zoL r) h') h 0 [(0, .ref p0), (1, .int p1), (2, .int p2), (3, .int p3)] [] := by
  unfold f_X1_invoice_b0 at hf
  refine zr_aload_n C0 dX1_invoice_0 rfl 0 rfl ?_
  refine zr_iload_n C0 dX1_invoice_1 rfl 1 rfl ?_
  obtain ⟨_, e1, hf⟩ := zbind hf
  obtain ⟨x4, h2, e3, hf⟩ := zbind2 hf
  rcases x4 with x5 | q6
  · have hf := zinl hf
    refine zr_callV_r C0 cv_X1_134_X1 rfl (zcko e1) (m_X1_franchisee C0.2.2.2.2.2.2.1 e3) (by decide) (by decide) rfl rfl (Nat.le_of_ble_eq_true rfl) dX1_invoice_2 rfl ?_
    refine zr_astore (i := 4) (lv' := [(4, .ref x5), (0, .ref p0), (1, .int p1), (2, .int p2), (3, .int p3)]) C0 dX1_invoice_5 (by decide) (by first | rfl | simp [zst1, zst2, zcat_rf]) ?_
    refine zr_iconst C0 (v := 2) dX1_invoice_7 (by decide) ?_
    obtain ⟨q7, h8, e9, hf⟩ := zbind2 hf
    refine zr_newa C0 (atype := .boolean) (t := 3) q627 rfl (by decide) (fun _ => rfl) dX1_invoice_8 e9 ?_
    refine zr_dup C0 dX1_invoice_10 rfl ?_
    refine zr_iconst C0 (v := 0) dX1_invoice_11 (by decide) ?_
    refine zr_aload_n C0 dX1_invoice_12 rfl 1 rfl ?_
    refine zr_iload_n C0 dX1_invoice_13 rfl 3 rfl ?_
    obtain ⟨_, e10, hf⟩ := zbind hf
    obtain ⟨x13, h11, e12, hf⟩ := zbind2 hf
    refine zr_callV_r C0 cv_X1_280_X1 rfl (zcko e10) (m_X1_isClosed C0.2.2.2.2.2.2.1 e12) (by decide) (by decide) rfl rfl (Nat.le_of_ble_eq_true rfl) dX1_invoice_14 rfl ?_
    obtain ⟨_, e14, hf⟩ := zbind hf
    obtain ⟨h15, e16, hf⟩ := zbind hf
    refine zr_zast C0 dX1_invoice_17 (zgd_b e14) e16 ?_
    refine zr_dup C0 dX1_invoice_18 rfl ?_
    refine zr_iconst C0 (v := 1) dX1_invoice_19 (by decide) ?_
    refine zr_iload_n C0 dX1_invoice_20 rfl 4 rfl ?_
    refine zr_i2l C0 dX1_invoice_21 ?_
    refine zr_lconst C0 (v := 0) dX1_invoice_22 (by decide) ?_
    refine zr_ldc2 C0 (v := 6) q2262 dX1_invoice_23 ?_
    obtain ⟨x19, h17, e18, hf⟩ := zbind2 hf
    refine zr_callS_r C0 cv_X1_84 (m_X1_inRange C0.2.2.2.2.2.2.1 e18) (by decide) (by decide) rfl rfl (Nat.le_of_ble_eq_true rfl) dX1_invoice_26 rfl ?_
    obtain ⟨_, e20, hf⟩ := zbind hf
    obtain ⟨h21, e22, hf⟩ := zbind hf
    refine zr_zast C0 dX1_invoice_29 (zgd_b e20) e22 ?_
    obtain ⟨x25, h23, e24, hf⟩ := zbind2 hf
    rcases x25 with x26 | q27
    · have hf := zinl hf
      refine zr_callS_r C0 cv_X1_168 (m_X1_requireArguments C0.2.2.2.2.2.2.1 e24) (by decide) (by decide) rfl rfl (Nat.le_of_ble_eq_true rfl) dX1_invoice_30 rfl ?_
      refine zr_aload C0 dX1_invoice_33 0 rfl ?_
      obtain ⟨x28, e29, hf⟩ := zbind hf
      refine zr_get C0 fl_X1_298_X11 dX1_invoice_35 (zgR e29) ?_
      refine zr_iload_n C0 dX1_invoice_38 rfl 3 rfl ?_
      obtain ⟨x30, e31, hf⟩ := zbind hf
      refine zr_aald C0 rfl dX1_invoice_39 e31 ?_
      refine zr_iload_n C0 dX1_invoice_40 rfl 4 rfl ?_
      obtain ⟨x32, e33, hf⟩ := zbind hf
      refine zr_lald C0 dX1_invoice_41 e33 ?_
      refine zretW hf ?_
      exact zr_lret C0 rfl dX1_invoice_42 rfl
    · have hf := zinr hf
      refine zretW hf ?_
      exact zr_callS_t C0 cv_X1_168 (m_X1_requireArguments C0.2.2.2.2.2.2.1 e24) (by decide) (by decide) rfl rfl (Nat.le_of_ble_eq_true rfl) dX1_invoice_30 (zr_out C0 hno rfl)
  · have hf := zinr hf
    refine zretW hf ?_
    exact zr_callV_t C0 cv_X1_134_X1 rfl (zcko e1) (m_X1_franchisee C0.2.2.2.2.2.2.1 e3) (by decide) (by decide) rfl rfl (Nat.le_of_ble_eq_true rfl) dX1_invoice_2 (zr_out C0 hno rfl)
def f_X1_invoice (E : zE) (p0 : Nat) (p1 : Int32) (p2 : Int32) (p3 : Int32) (h : zH) : Option ((Int64 ⊕ (Nat × Nat)) × zH) := f_X1_invoice_b0 E p0 p1 p2 p3 h
theorem m_X1_invoice {l : Launch} (hst : l.stackTraces = false) {D : zD} {B0 : Nat} {E : zE} {p0 : Nat} {p1 : Int32} {p2 : Int32} {p3 : Int32} {h h' : zH} {r : (Int64 ⊕ (Nat × Nat))} (hf : f_X1_invoice E p0 p1 p2 p3 h = some (r, h')) : zMet l yX1_invoice (ws_ yX1_invoice cX1_invoice 5 (Option.some Jvm.ClassFile.FieldType.long)) 11 175 D B0 E [.ref p0, .int p1, .int p2, .int p3] h (zoT zoL r) h' := by
  unfold f_X1_invoice at hf
  refine zMet_of hst (by decide +kernel) rfl rfl (Nat.le_of_ble_eq_true rfl) (fun p e R s m below meth c C0 hno => ?_)
  show zW _ _ _ _ _ _ _ _ _ _ _ _ _ _ _ _ [(0, .ref p0), (1, .int p1), (2, .int p2), (3, .int p3)] []
  exact w_X1_invoice_b0 C0 hno hf
def f_X1_predictDue_b0 (E : zE) (p0 : Nat) (p1 : Int32) (p2 : Int32) (h : zH) : Option ((Int64 ⊕ (Nat × Nat)) × zH) :=
  bnd2 (nA h 3 (1 : Int32) (.inl fun _ => 0)) fun q1 h2 =>
  (cko h2 p0 0).bind fun _ =>
  bnd2 (f_X1_isFranchisee E p0 p1 h2) fun x7 h5 =>
  (zgd .boolean x7).bind fun _ =>
  (sI h5 q1 3 (0 : Int32) x7).bind fun h9 =>
  bnd2 (f_X1_requireIndex E q1 h9) fun x13 h11 =>
  Sum.elim (fun x14 => (
    bnd2 (nA h11 3 (1 : Int32) (.inl fun _ => 0)) fun q16 h17 =>
    bnd2 (f_X1_inRange E (p2.toInt64) (0 : Int64) (300 : Int64) h17) fun x21 h19 =>
    (zgd .boolean x21).bind fun _ =>
    (sI h19 q16 3 (0 : Int32) x21).bind fun h23 =>
    bnd2 (f_X1_requireArguments E q16 h23) fun x27 h25 =>
    Sum.elim (fun x28 => (
      (gR h25 p0 0 1).bind fun x30 =>
      (cko h25 x30 4).bind fun _ =>
      bnd2 (f_X4_statement E x30 p1 p2 h25) fun x35 h33 =>
      (dL h33 x35 (5 : Int32)).bind fun x36 =>
      some (.inl x36, h33)
    )) (fun q29 => (
      some (.inr q29, h25)
    )) x27
  )) (fun q15 => (
    some (.inr q15, h11)
  )) x13
theorem w_X1_predictDue_b0 (C0 : zCx p l e R s m args below meth c D B0 3 "FranchiseLedger" cX1_predictDue E 10 180 (Option.some Jvm.ClassFile.FieldType.long) "predictDue") (hno : ∀ x ∈ c.exceptionTable.toList, False) {r : (Int64 ⊕ (Nat × Nat))} {h' : zH} {p0 : Nat} {p1 : Int32} {p2 : Int32} {h : zH} (hf : f_X1_predictDue_b0 E p0 p1 p2 h = some (r, h')) : zW p l e R s m args below meth c D B0 3 (zEnd D B0 R below args s (zoT zoL r) h') h 0 [(0, .ref p0), (1, .int p1), (2, .int p2)] [] := by
  unfold f_X1_predictDue_b0 at hf
  refine zr_iconst C0 (v := 1) dX1_predictDue_0 (by decide) ?_
  obtain ⟨q1, h2, e3, hf⟩ := zbind2 hf
  refine zr_newa C0 (atype := .boolean) (t := 3) q627 rfl (by decide) (fun _ => rfl) dX1_predictDue_1 e3 ?_
  refine zr_dup C0 dX1_predictDue_3 rfl ?_
  refine zr_iconst C0 (v := 0) dX1_predictDue_4 (by decide) ?_
  refine zr_aload_n C0 dX1_predictDue_5 rfl 0 rfl ?_
  refine zr_iload_n C0 dX1_predictDue_6 rfl 1 rfl ?_
  obtain ⟨_, e4, hf⟩ := zbind hf
  obtain ⟨x7, h5, e6, hf⟩ := zbind2 hf
  refine zr_callV_r C0 cv_X1_88_X1 rfl (zcko e4) (m_X1_isFranchisee C0.2.2.2.2.2.2.1 e6) (by decide) (by decide) rfl rfl (Nat.le_of_ble_eq_true rfl) dX1_predictDue_7 rfl ?_
  obtain ⟨_, e8, hf⟩ := zbind hf
  obtain ⟨h9, e10, hf⟩ := zbind hf
  refine zr_zast C0 dX1_predictDue_10 (zgd_b e8) e10 ?_
  obtain ⟨x13, h11, e12, hf⟩ := zbind2 hf
  rcases x13 with x14 | q15
  · have hf := zinl hf
    refine zr_callS_r C0 cv_X1_92 (m_X1_requireIndex C0.2.2.2.2.2.2.1 e12) (by decide) (by decide) rfl rfl (Nat.le_of_ble_eq_true rfl) dX1_predictDue_11 rfl ?_
    refine zr_iconst C0 (v := 1) dX1_predictDue_14 (by decide) ?_
    obtain ⟨q16, h17, e18, hf⟩ := zbind2 hf
    refine zr_newa C0 (atype := .boolean) (t := 3) q627 rfl (by decide) (fun _ => rfl) dX1_predictDue_15 e18 ?_
    refine zr_dup C0 dX1_predictDue_17 rfl ?_
    refine zr_iconst C0 (v := 0) dX1_predictDue_18 (by decide) ?_
    refine zr_iload_n C0 dX1_predictDue_19 rfl 2 rfl ?_
    refine zr_i2l C0 dX1_predictDue_20 ?_
    refine zr_lconst C0 (v := 0) dX1_predictDue_21 (by decide) ?_
    refine zr_ldc2 C0 (v := 300) q2270 dX1_predictDue_22 ?_
    obtain ⟨x21, h19, e20, hf⟩ := zbind2 hf
    refine zr_callS_r C0 cv_X1_84 (m_X1_inRange C0.2.2.2.2.2.2.1 e20) (by decide) (by decide) rfl rfl (Nat.le_of_ble_eq_true rfl) dX1_predictDue_25 rfl ?_
    obtain ⟨_, e22, hf⟩ := zbind hf
    obtain ⟨h23, e24, hf⟩ := zbind hf
    refine zr_zast C0 dX1_predictDue_28 (zgd_b e22) e24 ?_
    obtain ⟨x27, h25, e26, hf⟩ := zbind2 hf
    rcases x27 with x28 | q29
    · have hf := zinl hf
      refine zr_callS_r C0 cv_X1_168 (m_X1_requireArguments C0.2.2.2.2.2.2.1 e26) (by decide) (by decide) rfl rfl (Nat.le_of_ble_eq_true rfl) dX1_predictDue_29 rfl ?_
      refine zr_aload_n C0 dX1_predictDue_32 rfl 0 rfl ?_
      obtain ⟨x30, e31, hf⟩ := zbind hf
      refine zr_get C0 fl_X1_39_X1 dX1_predictDue_33 (zgR e31) ?_
      refine zr_iload_n C0 dX1_predictDue_36 rfl 1 rfl ?_
      refine zr_iload_n C0 dX1_predictDue_37 rfl 2 rfl ?_
      obtain ⟨_, e32, hf⟩ := zbind hf
      obtain ⟨x35, h33, e34, hf⟩ := zbind2 hf
      refine zr_callV_r C0 cv_X1_303_X4 rfl (zcko e32) (m_X4_statement C0.2.2.2.2.2.2.1 e34) (by decide) (by decide) rfl rfl (Nat.le_of_ble_eq_true rfl) dX1_predictDue_38 rfl ?_
      refine zr_iconst C0 (v := 5) dX1_predictDue_41 (by decide) ?_
      obtain ⟨x36, e37, hf⟩ := zbind hf
      refine zr_lald C0 dX1_predictDue_42 e37 ?_
      refine zretW hf ?_
      exact zr_lret C0 rfl dX1_predictDue_43 rfl
    · have hf := zinr hf
      refine zretW hf ?_
      exact zr_callS_t C0 cv_X1_168 (m_X1_requireArguments C0.2.2.2.2.2.2.1 e26) (by decide) (by decide) rfl rfl (Nat.le_of_ble_eq_true rfl) dX1_predictDue_29 (zr_out C0 hno rfl)
  · have hf := zinr hf
    refine zretW hf ?_
    exact zr_callS_t C0 cv_X1_92 (m_X1_requireIndex C0.2.2.2.2.2.2.1 e12) (by decide) (by decide) rfl rfl (Nat.le_of_ble_eq_true rfl) dX1_predictDue_11 (zr_out C0 hno rfl)
def f_X1_predictDue (E : zE) (p0 : Nat) (p1 : Int32) (p2 : Int32) (h : zH) : Option ((Int64 ⊕ (Nat × Nat)) × zH) := f_X1_predictDue_b0 E p0 p1 p2 h
theorem m_X1_predictDue {l : Launch} (hst : l.stackTraces = false) {D : zD} {B0 : Nat} {E : zE} {p0 : Nat} {p1 : Int32} {p2 : Int32} {h h' : zH} {r : (Int64 ⊕ (Nat × Nat))} (hf : f_X1_predictDue E p0 p1 p2 h = some (r, h')) : zMet l yX1_predictDue (ws_ yX1_predictDue cX1_predictDue 3 (Option.some Jvm.ClassFile.FieldType.long)) 10 180 D B0 E [.ref p0, .int p1, .int p2] h (zoT zoL r) h' := by
  unfold f_X1_predictDue at hf
  refine zMet_of hst (by decide +kernel) rfl rfl (Nat.le_of_ble_eq_true rfl) (fun p e R s m below meth c C0 hno => ?_)
  show zW _ _ _ _ _ _ _ _ _ _ _ _ _ _ _ _ [(0, .ref p0), (1, .int p1), (2, .int p2)] []
  exact w_X1_predictDue_b0 C0 hno hf
def f_X1_balance_b0 (E : zE) (p0 : Nat) (p1 : Int32) (h : zH) : Option ((Int64 ⊕ (Nat × Nat)) × zH) :=
  (cko h p0 0).bind fun _ =>
  bnd2 (f_X1_franchisee E p0 p1 h) fun x4 h2 =>
  Sum.elim (fun x5 => (
    (gL h2 x5 10 8).bind fun x7 =>
    some (.inl x7, h2)
  )) (fun q6 => (
    some (.inr q6, h2)
  )) x4
theorem w_X1_balance_b0 (C0 : zCx p l e R s m args below meth c D B0 2 "FranchiseLedger" cX1_balance E 11 175 (Option.some Jvm.ClassFile.FieldType.long) "balance") (hno : ∀ x ∈ c.exceptionTable.toList, False) {r : (Int64 ⊕ (Nat × Nat))} {h' : zH} {p0 : Nat} {p1 : Int32} {h : zH} (hf : f_X1_balance_b0 E p0 p1 h = some (r, h')) : zW p l e R s m args below meth c D B0 2 (zEnd D B0 R below args s (zoT zoL r) h') h 0 [(0, .ref p0), (1, .int p1)] [] := by
  unfold f_X1_balance_b0 at hf
  refine zr_aload_n C0 dX1_balance_0 rfl 0 rfl ?_
  refine zr_iload_n C0 dX1_balance_1 rfl 1 rfl ?_
  obtain ⟨_, e1, hf⟩ := zbind hf
  obtain ⟨x4, h2, e3, hf⟩ := zbind2 hf
  rcases x4 with x5 | q6
  · have hf := zinl hf
    refine zr_callV_r C0 cv_X1_134_X1 rfl (zcko e1) (m_X1_franchisee C0.2.2.2.2.2.2.1 e3) (by decide) (by decide) rfl rfl (Nat.le_of_ble_eq_true rfl) dX1_balance_2 rfl ?_
    obtain ⟨x7, e8, hf⟩ := zbind hf
    refine zr_get C0 fl_X1_153_X11 dX1_balance_5 (zgL e8) ?_
    refine zretW hf ?_
    exact zr_lret C0 rfl dX1_balance_8 rfl
  · have hf := zinr hf
    refine zretW hf ?_
    exact zr_callV_t C0 cv_X1_134_X1 rfl (zcko e1) (m_X1_franchisee C0.2.2.2.2.2.2.1 e3) (by decide) (by decide) rfl rfl (Nat.le_of_ble_eq_true rfl) dX1_balance_2 (zr_out C0 hno rfl)
def f_X1_balance (E : zE) (p0 : Nat) (p1 : Int32) (h : zH) : Option ((Int64 ⊕ (Nat × Nat)) × zH) := f_X1_balance_b0 E p0 p1 h
theorem m_X1_balance {l : Launch} (hst : l.stackTraces = false) {D : zD} {B0 : Nat} {E : zE} {p0 : Nat} {p1 : Int32} {h h' : zH} {r : (Int64 ⊕ (Nat × Nat))} (hf : f_X1_balance E p0 p1 h = some (r, h')) : zMet l yX1_balance (ws_ yX1_balance cX1_balance 2 (Option.some Jvm.ClassFile.FieldType.long)) 11 175 D B0 E [.ref p0, .int p1] h (zoT zoL r) h' := by
  unfold f_X1_balance at hf
  refine zMet_of hst (by decide +kernel) rfl rfl (Nat.le_of_ble_eq_true rfl) (fun p e R s m below meth c C0 hno => ?_)
  show zW _ _ _ _ _ _ _ _ _ _ _ _ _ _ _ _ [(0, .ref p0), (1, .int p1)] []
  exact w_X1_balance_b0 C0 hno hf
def f_X1_monthsOverdue_b0 (E : zE) (p0 : Nat) (p1 : Int32) (h : zH) : Option ((Int32 ⊕ (Nat × Nat)) × zH) :=
  (cko h p0 0).bind fun _ =>
  bnd2 (f_X1_franchisee E p0 p1 h) fun x4 h2 =>
  Sum.elim (fun x5 => (
    (gI h2 x5 10 7).bind fun x7 =>
    some (.inl x7, h2)
  )) (fun q6 => (
    some (.inr q6, h2)
  )) x4
theorem w_X1_monthsOverdue_b0 (C0 : zCx p l e R s m args below meth c D B0 2 "FranchiseLedger" cX1_monthsOverdue E 11 175 (Option.some Jvm.ClassFile.FieldType.int) "monthsOverdue") (hno : ∀ x ∈ c.exceptionTable.toList, False) {r : (Int32 ⊕ (Nat × Nat))} {h' : zH} {p0 : Nat} {p1 : Int32} {h : zH} (hf : f_X1_monthsOverdue_b0 E p0 p1 h = some (r, h')) : zW p l e R s m args below meth c D B0 2 (zEnd D B0 R below args s (zoT zoI r) h') h 0 [(0, .ref p0), (1, .int p1)] [] := by
  unfold f_X1_monthsOverdue_b0 at hf
  refine zr_aload_n C0 dX1_monthsOverdue_0 rfl 0 rfl ?_
  refine zr_iload_n C0 dX1_monthsOverdue_1 rfl 1 rfl ?_
  obtain ⟨_, e1, hf⟩ := zbind hf
  obtain ⟨x4, h2, e3, hf⟩ := zbind2 hf
  rcases x4 with x5 | q6
  · have hf := zinl hf
    refine zr_callV_r C0 cv_X1_134_X1 rfl (zcko e1) (m_X1_franchisee C0.2.2.2.2.2.2.1 e3) (by decide) (by decide) rfl rfl (Nat.le_of_ble_eq_true rfl) dX1_monthsOverdue_2 rfl ?_
    obtain ⟨x7, e8, hf⟩ := zbind hf
    refine zr_get C0 fl_X1_150_X11 dX1_monthsOverdue_5 (zgI e8) ?_
    refine zretW hf ?_
    exact zr_iret C0 (ty := .int) rfl rfl dX1_monthsOverdue_8 rfl
  · have hf := zinr hf
    refine zretW hf ?_
    exact zr_callV_t C0 cv_X1_134_X1 rfl (zcko e1) (m_X1_franchisee C0.2.2.2.2.2.2.1 e3) (by decide) (by decide) rfl rfl (Nat.le_of_ble_eq_true rfl) dX1_monthsOverdue_2 (zr_out C0 hno rfl)
def f_X1_monthsOverdue (E : zE) (p0 : Nat) (p1 : Int32) (h : zH) : Option ((Int32 ⊕ (Nat × Nat)) × zH) := f_X1_monthsOverdue_b0 E p0 p1 h
theorem m_X1_monthsOverdue {l : Launch} (hst : l.stackTraces = false) {D : zD} {B0 : Nat} {E : zE} {p0 : Nat} {p1 : Int32} {h h' : zH} {r : (Int32 ⊕ (Nat × Nat))} (hf : f_X1_monthsOverdue E p0 p1 h = some (r, h')) : zMet l yX1_monthsOverdue (ws_ yX1_monthsOverdue cX1_monthsOverdue 2 (Option.some Jvm.ClassFile.FieldType.int)) 11 175 D B0 E [.ref p0, .int p1] h (zoT zoI r) h' := by
  unfold f_X1_monthsOverdue at hf
  refine zMet_of hst (by decide +kernel) rfl rfl (Nat.le_of_ble_eq_true rfl) (fun p e R s m below meth c C0 hno => ?_)
  show zW _ _ _ _ _ _ _ _ _ _ _ _ _ _ _ _ [(0, .ref p0), (1, .int p1)] []
  exact w_X1_monthsOverdue_b0 C0 hno hf
def f_X1_payOff_b78 (E : zE) (s0 : Int32) (h : zH) : Option ((Int32 ⊕ (Nat × Nat)) × zH) :=
  some (.inl s0, h)
theorem w_X1_payOff_b78 (C0 : zCx p l e R s m args below meth c D B0 7 "FranchiseLedger" cX1_payOff E 11 175 (Option.some Jvm.ClassFile.FieldType.int) "payOff") (hno : ∀ x ∈ c.exceptionTable.toList, False) {r : (Int32 ⊕ (Nat × Nat))} {h' : zH} {s0 : Int32} {h : zH} (hf : f_X1_payOff_b78 E s0 h = some (r, h')) : zW p l e R s m args below meth c D B0 7 (zEnd D B0 R below args s (zoT zoI r) h') h 78 [] [.int s0] := by
  unfold f_X1_payOff_b78 at hf
  refine zretW hf ?_
  exact zr_iret C0 (ty := .int) rfl rfl dX1_payOff_78 rfl
def f_X1_payOff_b65 (E : zE) (p4 : Int64) (p6 : Int32) (h : zH) : Option ((Int32 ⊕ (Nat × Nat)) × zH) :=
  if p4 ≤ (0 : Int64) then (
    f_X1_payOff_b78 E p6 h
  ) else (
    f_X1_payOff_b78 E (-1 : Int32) h
  )
theorem w_X1_payOff_b65 (C0 : zCx p l e R s m args below meth c D B0 7 "FranchiseLedger" cX1_payOff E 11 175 (Option.some Jvm.ClassFile.FieldType.int) "payOff") (hno : ∀ x ∈ c.exceptionTable.toList, False) {r : (Int32 ⊕ (Nat × Nat))} {h' : zH} {p4 : Int64} {p6 : Int32} {h : zH} (hf : f_X1_payOff_b65 E p4 p6 h = some (r, h')) : zW p l e R s m args below meth c D B0 7 (zEnd D B0 R below args s (zoT zoI r) h') h 65 [(4, .long p4), (6, .int p6)] [] := by
  unfold f_X1_payOff_b65 at hf
  refine zr_lload C0 dX1_payOff_65 0 rfl ?_
  refine zr_lconst C0 (v := 0) dX1_payOff_67 (by decide) ?_
  refine zr_lcmp C0 dX1_payOff_68 ?_
  refine zr_if_le C0 (tgt := 76) dX1_payOff_69 (by decide) (fun c1 => ?_) (fun c1 => ?_)
  · have hf := zif_t (zl_le.mp c1) hf
    refine zr_iload C0 dX1_payOff_76 1 rfl ?_
    refine zr_sub [] rfl ?_
    exact w_X1_payOff_b78 C0 hno hf
  · have hf := zif_f (zl_len.mp c1) hf
    refine zr_iconst C0 (v := -1) dX1_payOff_72 (by decide) ?_
    refine zr_goto C0 (tgt := 78) dX1_payOff_73 (by decide) ?_
    refine zr_sub [] rfl ?_
    exact w_X1_payOff_b78 C0 hno hf
def f_X1_payOff_l26 (E : zE) : Nat → Nat → Int64 → Int64 → Int32 → zH → Option ((Int32 ⊕ (Nat × Nat)) × zH)
  | 0, _, _, _, _, _ => none
  | n + 1, p0, p2, p4, p6, h =>
    if p4 ≤ (0 : Int64) then (
      f_X1_payOff_b65 E p4 p6 h
    ) else (
      if (120 : Int32) ≤ p6 then (
        f_X1_payOff_b65 E p4 p6 h
      ) else (
        (gR h p0 0 0).bind fun x3 =>
        (gR h x3 2 3).bind fun x5 =>
        (cko h x5 3).bind fun _ =>
        bnd2 (f_X16_of E x5 p4 h) fun x10 h8 =>
        f_X1_payOff_l26 E n p0 p2 (p4 + (x10 - p2)) (p6 + 1) h8
      )
    )
theorem w_X1_payOff_l26 (C0 : zCx p l e R s m args below meth c D B0 7 "FranchiseLedger" cX1_payOff E 11 175 (Option.some Jvm.ClassFile.FieldType.int) "payOff") (hno : ∀ x ∈ c.exceptionTable.toList, False) {r : (Int32 ⊕ (Nat × Nat))} {h' : zH} : ∀ (n : Nat) (p0 : Nat) (p2 : Int64) (p4 : Int64) (p6 : Int32) (h : zH), f_X1_payOff_l26 E n p0 p2 p4 p6 h = some (r, h') → zW p l e R s m args below meth c D B0 7 (zEnd D B0 R below args s (zoT zoI r) h') h 26 [(0, .ref p0), (2, .long p2), (4, .long p4), (6, .int p6)] [] := by
  intro n
  induction n with
  | zero =>
    intro p0 p2 p4 p6 h hf
    unfold f_X1_payOff_l26 at hf
    cases hf
  | succ n ih =>
    intro p0 p2 p4 p6 h hf
    unfold f_X1_payOff_l26 at hf
    refine zr_lload C0 dX1_payOff_26 2 rfl ?_
    refine zr_lconst C0 (v := 0) dX1_payOff_28 (by decide) ?_
    refine zr_lcmp C0 dX1_payOff_29 ?_
    refine zr_if_le C0 (tgt := 65) dX1_payOff_30 (by decide) (fun c1 => ?_) (fun c1 => ?_)
    · have hf := zif_t (zl_le.mp c1) hf
      refine zr_sub [2, 3] rfl ?_
      exact w_X1_payOff_b65 C0 hno hf
    · have hf := zif_f (zl_len.mp c1) hf
      refine zr_iload C0 dX1_payOff_33 3 rfl ?_
      refine zr_bipush C0 (v := 120) dX1_payOff_35 (by decide) ?_
      refine zr_icmp_ge C0 (tgt := 65) dX1_payOff_37 (by decide) (fun c2 => ?_) (fun c2 => ?_)
      · have hf := zif_t c2 hf
        refine zr_sub [2, 3] rfl ?_
        exact w_X1_payOff_b65 C0 hno hf
      · have hf := zif_f c2 hf
        refine zr_lload C0 dX1_payOff_40 2 rfl ?_
        refine zr_aload_n C0 dX1_payOff_42 rfl 0 rfl ?_
        obtain ⟨x3, e4, hf⟩ := zbind hf
        refine zr_get C0 fl_X1_30_X1 dX1_payOff_43 (zgR e4) ?_
        obtain ⟨x5, e6, hf⟩ := zbind hf
        refine zr_get C0 fl_X1_315_X2 dX1_payOff_46 (zgR e6) ?_
        refine zr_lload C0 dX1_payOff_49 2 rfl ?_
        obtain ⟨_, e7, hf⟩ := zbind hf
        obtain ⟨x10, h8, e9, hf⟩ := zbind2 hf
        refine zr_callD_r C0 (by decide +kernel) (zcko e7) (m_X16_of C0.2.2.2.2.2.2.1 e9) (by decide) (by decide) rfl rfl (Nat.le_of_ble_eq_true rfl) dX1_payOff_51 rfl ?_
        refine zr_lload_n C0 dX1_payOff_54 rfl 1 rfl ?_
        refine zr_lsub C0 dX1_payOff_55 ?_
        refine zr_ladd C0 dX1_payOff_56 ?_
        refine zr_lstore (i := 4) (lv' := [(4, .long (p4 + (x10 - p2))), (0, .ref p0), (2, .long p2), (6, .int p6)]) C0 dX1_payOff_57 (by decide) (by first | rfl | simp [zst1, zst2, zcat_rf]) ?_
        refine zr_iinc (lv' := [(6, .int (p6 + 1)), (4, .long (p4 + (x10 - p2))), (0, .ref p0), (2, .long p2)]) C0 dX1_payOff_59 3 rfl rfl (by decide) (by first | rfl | simp [zst1, zst2, zcat_rf]) ?_
        refine zr_goto C0 (tgt := 26) dX1_payOff_62 (by decide) ?_
        refine zr_sub [2, 3, 1, 0] rfl ?_
        exact ih _ _ _ _ _ hf
def f_X1_payOff_b0 (E : zE) (p0 : Nat) (p1 : Int32) (p2 : Int64) (h : zH) : Option ((Int32 ⊕ (Nat × Nat)) × zH) :=
  (cko h p0 0).bind fun _ =>
  bnd2 (f_X1_franchisee E p0 p1 h) fun x4 h2 =>
  Sum.elim (fun x5 => (
    (gL h2 x5 10 8).bind fun x7 =>
    bnd2 (nA h2 3 (1 : Int32) (.inl fun _ => 0)) fun q9 h10 =>
    bnd2 (f_X1_isAmount E p2 h10) fun x14 h12 =>
    (zgd .boolean x14).bind fun _ =>
    (sI h12 q9 3 (0 : Int32) x14).bind fun h16 =>
    bnd2 (f_X1_requireArguments E q9 h16) fun x20 h18 =>
    Sum.elim (fun x21 => (
      f_X1_payOff_l26 E E.1 p0 p2 x7 (0 : Int32) h18
    )) (fun q22 => (
      some (.inr q22, h18)
    )) x20
  )) (fun q6 => (
    some (.inr q6, h2)
  )) x4
theorem w_X1_payOff_b0 (C0 : zCx p l e R s m args below meth c D B0 7 "FranchiseLedger" cX1_payOff E 11 175 (Option.some Jvm.ClassFile.FieldType.int) "payOff") (hno : ∀ x ∈ c.exceptionTable.toList, False) {r : (Int32 ⊕ (Nat × Nat))} {h' : zH} {p0 : Nat} {p1 : Int32} {p2 : Int64} {h : zH} (hf : f_X1_payOff_b0 E p0 p1 p2 h = some (r, h')) : zW p l e R s m args below meth c D B0 7 (zEnd D B0 R below args s (zoT zoI r) h') h 0 [(0, .ref p0), (1, .int p1), (2, .long p2)] [] := by
  unfold f_X1_payOff_b0 at hf
  refine zr_aload_n C0 dX1_payOff_0 rfl 0 rfl ?_
  refine zr_iload_n C0 dX1_payOff_1 rfl 1 rfl ?_
  obtain ⟨_, e1, hf⟩ := zbind hf
  obtain ⟨x4, h2, e3, hf⟩ := zbind2 hf
  rcases x4 with x5 | q6
  · have hf := zinl hf
    refine zr_callV_r C0 cv_X1_134_X1 rfl (zcko e1) (m_X1_franchisee C0.2.2.2.2.2.2.1 e3) (by decide) (by decide) rfl rfl (Nat.le_of_ble_eq_true rfl) dX1_payOff_2 rfl ?_
    obtain ⟨x7, e8, hf⟩ := zbind hf
    refine zr_get C0 fl_X1_153_X11 dX1_payOff_5 (zgL e8) ?_
    refine zr_lstore (i := 4) (lv' := [(4, .long x7), (0, .ref p0), (1, .int p1), (2, .long p2)]) C0 dX1_payOff_8 (by decide) (by first | rfl | simp [zst1, zst2, zcat_rf]) ?_
    refine zr_iconst C0 (v := 1) dX1_payOff_10 (by decide) ?_
    obtain ⟨q9, h10, e11, hf⟩ := zbind2 hf
    refine zr_newa C0 (atype := .boolean) (t := 3) q627 rfl (by decide) (fun _ => rfl) dX1_payOff_11 e11 ?_
    refine zr_dup C0 dX1_payOff_13 rfl ?_
    refine zr_iconst C0 (v := 0) dX1_payOff_14 (by decide) ?_
    refine zr_lload_n C0 dX1_payOff_15 rfl 3 rfl ?_
    obtain ⟨x14, h12, e13, hf⟩ := zbind2 hf
    refine zr_callS_r C0 cv_X1_311 (m_X1_isAmount C0.2.2.2.2.2.2.1 e13) (by decide) (by decide) rfl rfl (Nat.le_of_ble_eq_true rfl) dX1_payOff_16 rfl ?_
    obtain ⟨_, e15, hf⟩ := zbind hf
    obtain ⟨h16, e17, hf⟩ := zbind hf
    refine zr_zast C0 dX1_payOff_19 (zgd_b e15) e17 ?_
    obtain ⟨x20, h18, e19, hf⟩ := zbind2 hf
    rcases x20 with x21 | q22
    · have hf := zinl hf
      refine zr_callS_r C0 cv_X1_168 (m_X1_requireArguments C0.2.2.2.2.2.2.1 e19) (by decide) (by decide) rfl rfl (Nat.le_of_ble_eq_true rfl) dX1_payOff_20 rfl ?_
      refine zr_iconst C0 (v := 0) dX1_payOff_23 (by decide) ?_
      refine zr_istore (i := 6) (lv' := [(6, .int (0 : Int32)), (4, .long x7), (0, .ref p0), (1, .int p1), (2, .long p2)]) C0 dX1_payOff_24 (by decide) (by first | rfl | simp [zst1, zst2, zcat_rf]) ?_
      refine zr_sub [2, 4, 1, 0] rfl ?_
      exact w_X1_payOff_l26 C0 hno _ _ _ _ _ _ hf
    · have hf := zinr hf
      refine zretW hf ?_
      exact zr_callS_t C0 cv_X1_168 (m_X1_requireArguments C0.2.2.2.2.2.2.1 e19) (by decide) (by decide) rfl rfl (Nat.le_of_ble_eq_true rfl) dX1_payOff_20 (zr_out C0 hno rfl)
  · have hf := zinr hf
    refine zretW hf ?_
    exact zr_callV_t C0 cv_X1_134_X1 rfl (zcko e1) (m_X1_franchisee C0.2.2.2.2.2.2.1 e3) (by decide) (by decide) rfl rfl (Nat.le_of_ble_eq_true rfl) dX1_payOff_2 (zr_out C0 hno rfl)
def f_X1_payOff (E : zE) (p0 : Nat) (p1 : Int32) (p2 : Int64) (h : zH) : Option ((Int32 ⊕ (Nat × Nat)) × zH) := f_X1_payOff_b0 E p0 p1 p2 h
theorem m_X1_payOff {l : Launch} (hst : l.stackTraces = false) {D : zD} {B0 : Nat} {E : zE} {p0 : Nat} {p1 : Int32} {p2 : Int64} {h h' : zH} {r : (Int32 ⊕ (Nat × Nat))} (hf : f_X1_payOff E p0 p1 p2 h = some (r, h')) : zMet l yX1_payOff (ws_ yX1_payOff cX1_payOff 7 (Option.some Jvm.ClassFile.FieldType.int)) 11 175 D B0 E [.ref p0, .int p1, .long p2] h (zoT zoI r) h' := by
  unfold f_X1_payOff at hf
  refine zMet_of hst (by decide +kernel) rfl rfl (Nat.le_of_ble_eq_true rfl) (fun p e R s m below meth c C0 hno => ?_)
  show zW _ _ _ _ _ _ _ _ _ _ _ _ _ _ _ _ [(0, .ref p0), (1, .int p1), (2, .long p2)] []
  exact w_X1_payOff_b0 C0 hno hf
def f_X12_isOpen_b21 (E : zE) (s0 : Int32) (h : zH) : Option (Int32 × zH) :=
  (zgd .boolean s0).bind fun _ =>
  some (s0, h)
theorem w_X12_isOpen_b21 (C0 : zCx p l e R s m args below meth c D B0 1 "FranchiseLedger$Transfer" cX12_isOpen E 1 60 (Option.some Jvm.ClassFile.FieldType.boolean) "isOpen") {r : Int32} {h' : zH} {s0 : Int32} {h : zH} (hf : f_X12_isOpen_b21 E s0 h = some (r, h')) : zW p l e R s m args below meth c D B0 1 (zEnd D B0 R below args s (zoI r) h') h 21 [] [.int s0] := by
  unfold f_X12_isOpen_b21 at hf
  obtain ⟨_, e1, hf⟩ := zbind hf
  refine zretW hf ?_
  exact zr_iret C0 (ty := .boolean) rfl (zgd_n e1) dX12_isOpen_21 rfl
def f_X12_isOpen_b16 (E : zE) (h : zH) : Option (Int32 × zH) :=
  f_X12_isOpen_b21 E (1 : Int32) h
theorem w_X12_isOpen_b16 (C0 : zCx p l e R s m args below meth c D B0 1 "FranchiseLedger$Transfer" cX12_isOpen E 1 60 (Option.some Jvm.ClassFile.FieldType.boolean) "isOpen") {r : Int32} {h' : zH} {h : zH} (hf : f_X12_isOpen_b16 E  h = some (r, h')) : zW p l e R s m args below meth c D B0 1 (zEnd D B0 R below args s (zoI r) h') h 16 [] [] := by
  unfold f_X12_isOpen_b16 at hf
  refine zr_iconst C0 (v := 1) dX12_isOpen_16 (by decide) ?_
  refine zr_goto C0 (tgt := 21) dX12_isOpen_17 (by decide) ?_
  exact w_X12_isOpen_b21 C0 hf
def f_X12_isOpen_b0 (E : zE) (p0 : Nat) (h : zH) : Option (Int32 × zH) :=
  (gI h p0 11 0).bind fun x1 =>
  if x1 = (1 : Int32) then (
    f_X12_isOpen_b16 E  h
  ) else (
    (gI h p0 11 0).bind fun x4 =>
    if x4 = (2 : Int32) then (
      f_X12_isOpen_b16 E  h
    ) else (
      f_X12_isOpen_b21 E (0 : Int32) h
    )
  )
theorem w_X12_isOpen_b0 (C0 : zCx p l e R s m args below meth c D B0 1 "FranchiseLedger$Transfer" cX12_isOpen E 1 60 (Option.some Jvm.ClassFile.FieldType.boolean) "isOpen") {r : Int32} {h' : zH} {p0 : Nat} {h : zH} (hf : f_X12_isOpen_b0 E p0 h = some (r, h')) : zW p l e R s m args below meth c D B0 1 (zEnd D B0 R below args s (zoI r) h') h 0 [(0, .ref p0)] [] := by
  unfold f_X12_isOpen_b0 at hf
  refine zr_aload_n C0 dX12_isOpen_0 rfl 0 rfl ?_
  obtain ⟨x1, e2, hf⟩ := zbind hf
  refine zr_get C0 fl_X12_9_X12 dX12_isOpen_1 (zgI e2) ?_
  refine zr_iconst C0 (v := 1) dX12_isOpen_4 (by decide) ?_
  refine zr_icmp_eq C0 (tgt := 16) dX12_isOpen_5 (by decide) (fun c3 => ?_) (fun c3 => ?_)
  · have hf := zif_t c3 hf
    refine zr_sub [] rfl ?_
    exact w_X12_isOpen_b16 C0 hf
  · have hf := zif_f c3 hf
    refine zr_aload_n C0 dX12_isOpen_8 rfl 0 rfl ?_
    obtain ⟨x4, e5, hf⟩ := zbind hf
    refine zr_get C0 fl_X12_9_X12 dX12_isOpen_9 (zgI e5) ?_
    refine zr_iconst C0 (v := 2) dX12_isOpen_12 (by decide) ?_
    refine zr_icmp_ne C0 (tgt := 20) dX12_isOpen_13 (by decide) (fun c6 => ?_) (fun c6 => ?_)
    · have hf := zif_f c6 hf
      refine zr_iconst C0 (v := 0) dX12_isOpen_20 (by decide) ?_
      refine zr_sub [] rfl ?_
      exact w_X12_isOpen_b21 C0 hf
    · have hf := zif_t c6 hf
      refine zr_sub [] rfl ?_
      exact w_X12_isOpen_b16 C0 hf
def f_X12_isOpen (E : zE) (p0 : Nat) (h : zH) : Option (Int32 × zH) := f_X12_isOpen_b0 E p0 h
theorem m_X12_isOpen {l : Launch} (hst : l.stackTraces = false) {D : zD} {B0 : Nat} {E : zE} {p0 : Nat} {h h' : zH} {r : Int32} (hf : f_X12_isOpen E p0 h = some (r, h')) : zMet l yX12_isOpen (ws_ yX12_isOpen cX12_isOpen 1 (Option.some Jvm.ClassFile.FieldType.boolean)) 1 60 D B0 E [.ref p0] h (zoI r) h' := by
  unfold f_X12_isOpen at hf
  refine zMet_of hst (by decide +kernel) rfl rfl (Nat.le_of_ble_eq_true rfl) (fun p e R s m below meth c C0 hno => ?_)
  show zW _ _ _ _ _ _ _ _ _ _ _ _ _ _ _ _ [(0, .ref p0)] []
  exact w_X12_isOpen_b0 C0 hf
def f_X4_terminate_b127 (E : zE) (k97 : Nat → Int32 → Int32 → zH → Option (Unit × zH)) (p0 : Nat) (p1 : Int32) (p3 : Int32) (h : zH) : Option (Unit × zH) :=
  k97 p0 p1 (p3 + 1) h
theorem w_X4_terminate_b127 (C0 : zCx p l e R s m args below meth c D B0 4 "FranchiseLedger$Books" cX4_terminate E 4 124 (Option.none : Option Jvm.ClassFile.FieldType) "terminate") {r : Unit} {h' : zH} {k97 : Nat → Int32 → Int32 → zH → Option (Unit × zH)} (hk97 : ∀ (p0 : Nat) (p1 : Int32) (p3 : Int32) (h : zH), k97 p0 p1 p3 h = some (r, h') → zW p l e R s m args below meth c D B0 4 (zEnd D B0 R below args s (zoV r) h') h 97 [(0, .ref p0), (1, .int p1), (3, .int p3)] []) {p0 : Nat} {p1 : Int32} {p3 : Int32} {h : zH} (hf : f_X4_terminate_b127 E k97 p0 p1 p3 h = some (r, h')) : zW p l e R s m args below meth c D B0 4 (zEnd D B0 R below args s (zoV r) h') h 127 [(0, .ref p0), (1, .int p1), (3, .int p3)] [] := by
  unfold f_X4_terminate_b127 at hf
  refine zr_iinc (lv' := [(3, .int (p3 + 1)), (0, .ref p0), (1, .int p1)]) C0 dX4_terminate_127 2 rfl rfl (by decide) (by first | rfl | simp [zst1, zst2, zcat_rf]) ?_
  refine zr_goto C0 (tgt := 97) dX4_terminate_130 (by decide) ?_
  refine zr_sub [1, 2, 0] rfl ?_
  exact hk97 _ _ _ _ hf
def f_X4_terminate_l97 (E : zE) : Nat → Nat → Int32 → Int32 → zH → Option (Unit × zH)
  | 0, _, _, _, _ => none
  | n + 1, p0, p1, p3, h =>
    if (900 : Int32) ≤ p3 then (
      some ((), h)
    ) else (
      (gR h p0 4 2).bind fun x2 =>
      (gR h x2 5 0).bind fun x4 =>
      (dI h x4 2 p3).bind fun x6 =>
      if x6 = p1 then (
        (gR h p0 4 2).bind fun x9 =>
        (gR h x9 5 0).bind fun x11 =>
        (sI h x11 2 p3 ((-1 : Int32).toInt8.toInt32)).bind fun h13 =>
        f_X4_terminate_b127 E (f_X4_terminate_l97 E n) p0 p1 p3 h13
      ) else (
        f_X4_terminate_b127 E (f_X4_terminate_l97 E n) p0 p1 p3 h
      )
    )
theorem w_X4_terminate_l97 (C0 : zCx p l e R s m args below meth c D B0 4 "FranchiseLedger$Books" cX4_terminate E 4 124 (Option.none : Option Jvm.ClassFile.FieldType) "terminate") {r : Unit} {h' : zH} : ∀ (n : Nat) (p0 : Nat) (p1 : Int32) (p3 : Int32) (h : zH), f_X4_terminate_l97 E n p0 p1 p3 h = some (r, h') → zW p l e R s m args below meth c D B0 4 (zEnd D B0 R below args s (zoV r) h') h 97 [(0, .ref p0), (1, .int p1), (3, .int p3)] [] := by
  intro n
  induction n with
  | zero =>
    intro p0 p1 p3 h hf
    unfold f_X4_terminate_l97 at hf
    cases hf
  | succ n ih =>
    intro p0 p1 p3 h hf
    unfold f_X4_terminate_l97 at hf
    refine zr_iload_n C0 dX4_terminate_97 rfl 2 rfl ?_
    refine zr_sipush C0 (v := 900) dX4_terminate_98 (by decide) ?_
    refine zr_icmp_ge C0 (tgt := 133) dX4_terminate_101 (by decide) (fun c1 => ?_) (fun c1 => ?_)
    · have hf := zif_t c1 hf
      refine zretW hf ?_
      exact zr_vret C0 rfl dX4_terminate_133 rfl
    · have hf := zif_f c1 hf
      refine zr_aload_n C0 dX4_terminate_104 rfl 0 rfl ?_
      obtain ⟨x2, e3, hf⟩ := zbind hf
      refine zr_get C0 fl_X4_30_X4 dX4_terminate_105 (zgR e3) ?_
      obtain ⟨x4, e5, hf⟩ := zbind hf
      refine zr_get C0 fl_X4_222_X5 dX4_terminate_108 (zgR e5) ?_
      refine zr_iload_n C0 dX4_terminate_111 rfl 2 rfl ?_
      obtain ⟨x6, e7, hf⟩ := zbind hf
      refine zr_bald C0 dX4_terminate_112 e7 ?_
      refine zr_iload_n C0 dX4_terminate_113 rfl 1 rfl ?_
      refine zr_icmp_ne C0 (tgt := 127) dX4_terminate_114 (by decide) (fun c8 => ?_) (fun c8 => ?_)
      · have hf := zif_f c8 hf
        exact w_X4_terminate_b127 C0 ih hf
      · have hf := zif_t c8 hf
        refine zr_aload_n C0 dX4_terminate_117 rfl 0 rfl ?_
        obtain ⟨x9, e10, hf⟩ := zbind hf
        refine zr_get C0 fl_X4_30_X4 dX4_terminate_118 (zgR e10) ?_
        obtain ⟨x11, e12, hf⟩ := zbind hf
        refine zr_get C0 fl_X4_222_X5 dX4_terminate_121 (zgR e12) ?_
        refine zr_iload_n C0 dX4_terminate_124 rfl 2 rfl ?_
        refine zr_iconst C0 (v := -1) dX4_terminate_125 (by decide) ?_
        obtain ⟨h13, e14, hf⟩ := zbind hf
        refine zr_bast C0 dX4_terminate_126 e14 ?_
        exact w_X4_terminate_b127 C0 ih hf
def f_X4_terminate_b89 (E : zE) (k39 : Nat → Int32 → Int32 → zH → Option (Unit × zH)) (p0 : Nat) (p1 : Int32) (p3 : Int32) (h : zH) : Option (Unit × zH) :=
  k39 p0 p1 (p3 + 1) h
theorem w_X4_terminate_b89 (C0 : zCx p l e R s m args below meth c D B0 4 "FranchiseLedger$Books" cX4_terminate E 4 124 (Option.none : Option Jvm.ClassFile.FieldType) "terminate") {r : Unit} {h' : zH} {k39 : Nat → Int32 → Int32 → zH → Option (Unit × zH)} (hk39 : ∀ (p0 : Nat) (p1 : Int32) (p3 : Int32) (h : zH), k39 p0 p1 p3 h = some (r, h') → zW p l e R s m args below meth c D B0 4 (zEnd D B0 R below args s (zoV r) h') h 39 [(0, .ref p0), (1, .int p1), (3, .int p3)] []) {p0 : Nat} {p1 : Int32} {p3 : Int32} {h : zH} (hf : f_X4_terminate_b89 E k39 p0 p1 p3 h = some (r, h')) : zW p l e R s m args below meth c D B0 4 (zEnd D B0 R below args s (zoV r) h') h 89 [(0, .ref p0), (1, .int p1), (3, .int p3)] [] := by
  unfold f_X4_terminate_b89 at hf
  refine zr_iinc (lv' := [(3, .int (p3 + 1)), (0, .ref p0), (1, .int p1)]) C0 dX4_terminate_89 2 rfl rfl (by decide) (by first | rfl | simp [zst1, zst2, zcat_rf]) ?_
  refine zr_goto C0 (tgt := 39) dX4_terminate_92 (by decide) ?_
  refine zr_sub [1, 2, 0] rfl ?_
  exact hk39 _ _ _ _ hf
def f_X4_terminate_l39 (E : zE) : Nat → Nat → Int32 → Int32 → zH → Option (Unit × zH)
  | 0, _, _, _, _ => none
  | n + 1, p0, p1, p3, h =>
    (gR h p0 4 1).bind fun x1 =>
    (cko h x1 15).bind fun _ =>
    bnd2 (f_J2_size E x1 h) fun x6 h4 =>
    if x6 ≤ p3 then (
      f_X4_terminate_l97 E E.1 p0 p1 (0 : Int32) h4
    ) else (
      (gR h4 p0 4 1).bind fun x8 =>
      (cko h4 x8 15).bind fun _ =>
      bnd2 (f_J2_get E x8 p3 h4) fun x13 h11 =>
      (cko h11 x13 13).bind fun _ =>
      (gI h11 x13 13 1).bind fun x15 =>
      if x15 = p1 then (
        (gR h11 p0 4 1).bind fun x18 =>
        (cko h11 x18 15).bind fun _ =>
        bnd2 (f_J2_get E x18 p3 h11) fun x23 h21 =>
        (cko h21 x23 13).bind fun _ =>
        (pF h21 x23 13 1 (.int (-1 : Int32))).bind fun h25 =>
        f_X4_terminate_b89 E (f_X4_terminate_l39 E n) p0 p1 p3 h25
      ) else (
        f_X4_terminate_b89 E (f_X4_terminate_l39 E n) p0 p1 p3 h11
      )
    )
theorem w_X4_terminate_l39 (C0 : zCx p l e R s m args below meth c D B0 4 "FranchiseLedger$Books" cX4_terminate E 4 124 (Option.none : Option Jvm.ClassFile.FieldType) "terminate") {r : Unit} {h' : zH} : ∀ (n : Nat) (p0 : Nat) (p1 : Int32) (p3 : Int32) (h : zH), f_X4_terminate_l39 E n p0 p1 p3 h = some (r, h') → zW p l e R s m args below meth c D B0 4 (zEnd D B0 R below args s (zoV r) h') h 39 [(0, .ref p0), (1, .int p1), (3, .int p3)] [] := by
  intro n
  induction n with
  | zero =>
    intro p0 p1 p3 h hf
    unfold f_X4_terminate_l39 at hf
    cases hf
  | succ n ih =>
    intro p0 p1 p3 h hf
    unfold f_X4_terminate_l39 at hf
    refine zr_iload_n C0 dX4_terminate_39 rfl 2 rfl ?_
    refine zr_aload_n C0 dX4_terminate_40 rfl 0 rfl ?_
    obtain ⟨x1, e2, hf⟩ := zbind hf
    refine zr_get C0 fl_X4_24_X4 dX4_terminate_41 (zgR e2) ?_
    obtain ⟨_, e3, hf⟩ := zbind hf
    obtain ⟨x6, h4, e5, hf⟩ := zbind2 hf
    refine zr_callF_r C0 cv_X4_46_J2 rfl (zcko e3) (m_J2_size C0.2.2.2.2.2.2.1 e5) (by decide) (by decide) rfl rfl (Nat.le_of_ble_eq_true rfl) dX4_terminate_44 rfl ?_
    refine zr_icmp_ge C0 (tgt := 95) dX4_terminate_49 (by decide) (fun c7 => ?_) (fun c7 => ?_)
    · have hf := zif_t c7 hf
      refine zr_iconst C0 (v := 0) dX4_terminate_95 (by decide) ?_
      refine zr_istore_n (i := 3) (lv' := [(3, .int (0 : Int32)), (0, .ref p0), (1, .int p1)]) C0 dX4_terminate_96 rfl (by decide) (by first | rfl | simp [zst1, zst2, zcat_rf]) ?_
      refine zr_sub [1, 2, 0] rfl ?_
      exact w_X4_terminate_l97 C0 _ _ _ _ _ hf
    · have hf := zif_f c7 hf
      refine zr_aload_n C0 dX4_terminate_52 rfl 0 rfl ?_
      obtain ⟨x8, e9, hf⟩ := zbind hf
      refine zr_get C0 fl_X4_24_X4 dX4_terminate_53 (zgR e9) ?_
      refine zr_iload_n C0 dX4_terminate_56 rfl 2 rfl ?_
      obtain ⟨_, e10, hf⟩ := zbind hf
      obtain ⟨x13, h11, e12, hf⟩ := zbind2 hf
      refine zr_callF_r C0 cv_X4_52_J2 rfl (zcko e10) (m_J2_get C0.2.2.2.2.2.2.1 e12) (by decide) (by decide) rfl rfl (Nat.le_of_ble_eq_true rfl) dX4_terminate_57 rfl ?_
      obtain ⟨_, e14, hf⟩ := zbind hf
      refine zr_castS C0 (ci := 13) rfl (zcko e14) q1055 dX4_terminate_62 ?_
      obtain ⟨x15, e16, hf⟩ := zbind hf
      refine zr_get C0 fl_X4_75_X14 dX4_terminate_65 (zgI e16) ?_
      refine zr_iload_n C0 dX4_terminate_68 rfl 1 rfl ?_
      refine zr_icmp_ne C0 (tgt := 89) dX4_terminate_69 (by decide) (fun c17 => ?_) (fun c17 => ?_)
      · have hf := zif_f c17 hf
        exact w_X4_terminate_b89 C0 ih hf
      · have hf := zif_t c17 hf
        refine zr_aload_n C0 dX4_terminate_72 rfl 0 rfl ?_
        obtain ⟨x18, e19, hf⟩ := zbind hf
        refine zr_get C0 fl_X4_24_X4 dX4_terminate_73 (zgR e19) ?_
        refine zr_iload_n C0 dX4_terminate_76 rfl 2 rfl ?_
        obtain ⟨_, e20, hf⟩ := zbind hf
        obtain ⟨x23, h21, e22, hf⟩ := zbind2 hf
        refine zr_callF_r C0 cv_X4_52_J2 rfl (zcko e20) (m_J2_get C0.2.2.2.2.2.2.1 e22) (by decide) (by decide) rfl rfl (Nat.le_of_ble_eq_true rfl) dX4_terminate_77 rfl ?_
        obtain ⟨_, e24, hf⟩ := zbind hf
        refine zr_castS C0 (ci := 13) rfl (zcko e24) q1055 dX4_terminate_82 ?_
        refine zr_iconst C0 (v := -1) dX4_terminate_85 (by decide) ?_
        obtain ⟨h25, e26, hf⟩ := zbind hf
        refine zr_put C0 pl_X4_75_X14 dX4_terminate_86 (fun h => by cases h) rfl rfl e26 ?_
        exact w_X4_terminate_b89 C0 ih hf
def f_X4_terminate_b37 (E : zE) (p0 : Nat) (p1 : Int32) (h : zH) : Option (Unit × zH) :=
  f_X4_terminate_l39 E E.1 p0 p1 (0 : Int32) h
theorem w_X4_terminate_b37 (C0 : zCx p l e R s m args below meth c D B0 4 "FranchiseLedger$Books" cX4_terminate E 4 124 (Option.none : Option Jvm.ClassFile.FieldType) "terminate") {r : Unit} {h' : zH} {p0 : Nat} {p1 : Int32} {h : zH} (hf : f_X4_terminate_b37 E p0 p1 h = some (r, h')) : zW p l e R s m args below meth c D B0 4 (zEnd D B0 R below args s (zoV r) h') h 37 [(0, .ref p0), (1, .int p1)] [] := by
  unfold f_X4_terminate_b37 at hf
  refine zr_iconst C0 (v := 0) dX4_terminate_37 (by decide) ?_
  refine zr_istore_n (i := 3) (lv' := [(3, .int (0 : Int32)), (0, .ref p0), (1, .int p1)]) C0 dX4_terminate_38 rfl (by decide) (by first | rfl | simp [zst1, zst2, zcat_rf]) ?_
  refine zr_sub [1, 2, 0] rfl ?_
  exact w_X4_terminate_l39 C0 _ _ _ _ _ hf
def f_X4_terminate_b0 (E : zE) (p0 : Nat) (p1 : Int32) (h : zH) : Option (Unit × zH) :=
  (gR h p0 4 0).bind fun x1 =>
  (cko h x1 15).bind fun _ =>
  bnd2 (f_J2_get E x1 p1 h) fun x6 h4 =>
  (cko h4 x6 10).bind fun _ =>
  (pF h4 x6 10 5 (.int (1 : Int32))).bind fun h8 =>
  (gR h8 x6 10 0).bind fun x10 =>
  (cko h8 x10 11).bind fun _ =>
  bnd2 (f_X12_isOpen E x10 h8) fun x15 h13 =>
  if x15 = 0 then (
    f_X4_terminate_b37 E p0 p1 h13
  ) else (
    (gR h13 x6 10 0).bind fun x17 =>
    (pF h13 x17 11 0 (.int (3 : Int32))).bind fun h19 =>
    f_X4_terminate_b37 E p0 p1 h19
  )
theorem w_X4_terminate_b0 (C0 : zCx p l e R s m args below meth c D B0 4 "FranchiseLedger$Books" cX4_terminate E 4 124 (Option.none : Option Jvm.ClassFile.FieldType) "terminate") {r : Unit} {h' : zH} {p0 : Nat} {p1 : Int32} {h : zH} (hf : f_X4_terminate_b0 E p0 p1 h = some (r, h')) : zW p l e R s m args below meth c D B0 4 (zEnd D B0 R below args s (zoV r) h') h 0 [(0, .ref p0), (1, .int p1)] [] := by
  unfold f_X4_terminate_b0 at hf
  refine zr_aload_n C0 dX4_terminate_0 rfl 0 rfl ?_
  obtain ⟨x1, e2, hf⟩ := zbind hf
  refine zr_get C0 fl_X4_20_X4 dX4_terminate_1 (zgR e2) ?_
  refine zr_iload_n C0 dX4_terminate_4 rfl 1 rfl ?_
  obtain ⟨_, e3, hf⟩ := zbind hf
  obtain ⟨x6, h4, e5, hf⟩ := zbind2 hf
  refine zr_callF_r C0 cv_X4_52_J2 rfl (zcko e3) (m_J2_get C0.2.2.2.2.2.2.1 e5) (by decide) (by decide) rfl rfl (Nat.le_of_ble_eq_true rfl) dX4_terminate_5 rfl ?_
  obtain ⟨_, e7, hf⟩ := zbind hf
  refine zr_castS C0 (ci := 10) rfl (zcko e7) q843 dX4_terminate_10 ?_
  refine zr_astore_n (i := 2) (lv' := [(2, .ref x6), (0, .ref p0), (1, .int p1)]) C0 dX4_terminate_13 rfl (by decide) (by first | rfl | simp [zst1, zst2, zcat_rf]) ?_
  refine zr_aload_n C0 dX4_terminate_14 rfl 0 rfl ?_
  refine zr_iconst C0 (v := 1) dX4_terminate_15 (by decide) ?_
  obtain ⟨h8, e9, hf⟩ := zbind hf
  refine zr_put C0 pl_X4_218_X11 dX4_terminate_16 (fun h => by cases h) rfl rfl e9 ?_
  refine zr_aload_n C0 dX4_terminate_19 rfl 0 rfl ?_
  obtain ⟨x10, e11, hf⟩ := zbind hf
  refine zr_get C0 fl_X4_161_X11 dX4_terminate_20 (zgR e11) ?_
  obtain ⟨_, e12, hf⟩ := zbind hf
  obtain ⟨x15, h13, e14, hf⟩ := zbind2 hf
  refine zr_callV_r C0 cv_X4_221_X12 rfl (zcko e12) (m_X12_isOpen C0.2.2.2.2.2.2.1 e14) (by decide) (by decide) rfl rfl (Nat.le_of_ble_eq_true rfl) dX4_terminate_23 rfl ?_
  refine zr_if_eq C0 (tgt := 37) dX4_terminate_26 (by decide) (fun c16 => ?_) (fun c16 => ?_)
  · have hf := zif_t c16 hf
    refine zr_sub [1, 2] rfl ?_
    exact w_X4_terminate_b37 C0 hf
  · have hf := zif_f c16 hf
    refine zr_aload_n C0 dX4_terminate_29 rfl 0 rfl ?_
    obtain ⟨x17, e18, hf⟩ := zbind hf
    refine zr_get C0 fl_X4_161_X11 dX4_terminate_30 (zgR e18) ?_
    refine zr_iconst C0 (v := 3) dX4_terminate_33 (by decide) ?_
    obtain ⟨h19, e20, hf⟩ := zbind hf
    refine zr_put C0 pl_X4_165_X12 dX4_terminate_34 (fun h => by cases h) rfl rfl e20 ?_
    refine zr_sub [1, 2] rfl ?_
    exact w_X4_terminate_b37 C0 hf
def f_X4_terminate (E : zE) (p0 : Nat) (p1 : Int32) (h : zH) : Option (Unit × zH) := f_X4_terminate_b0 E p0 p1 h
theorem m_X4_terminate {l : Launch} (hst : l.stackTraces = false) {D : zD} {B0 : Nat} {E : zE} {p0 : Nat} {p1 : Int32} {h h' : zH} {r : Unit} (hf : f_X4_terminate E p0 p1 h = some (r, h')) : zMet l yX4_terminate (ws_ yX4_terminate cX4_terminate 4 (Option.none : Option Jvm.ClassFile.FieldType)) 4 124 D B0 E [.ref p0, .int p1] h (zoV r) h' := by
  unfold f_X4_terminate at hf
  refine zMet_of hst (by decide +kernel) rfl rfl (Nat.le_of_ble_eq_true rfl) (fun p e R s m below meth c C0 hno => ?_)
  show zW _ _ _ _ _ _ _ _ _ _ _ _ _ _ _ _ [(0, .ref p0), (1, .int p1)] []
  exact w_X4_terminate_b0 C0 hf
def f_X1_terminate_b21 (E : zE) (h : zH) : Option ((Int32 ⊕ (Nat × Nat)) × zH) :=
  some (.inl (0 : Int32), h)
theorem w_X1_terminate_b21 (C0 : zCx p l e R s m args below meth c D B0 3 "FranchiseLedger" cX1_terminate E 11 175 (Option.some Jvm.ClassFile.FieldType.boolean) "terminate") (hno : ∀ x ∈ c.exceptionTable.toList, False) {r : (Int32 ⊕ (Nat × Nat))} {h' : zH} {h : zH} (hf : f_X1_terminate_b21 E  h = some (r, h')) : zW p l e R s m args below meth c D B0 3 (zEnd D B0 R below args s (zoT zoI r) h') h 21 [] [] := by
  unfold f_X1_terminate_b21 at hf
  refine zr_iconst C0 (v := 0) dX1_terminate_21 (by decide) ?_
  refine zretW hf ?_
  exact zr_iret C0 (ty := .boolean) rfl (by decide) dX1_terminate_22 rfl
def f_X1_terminate_b0 (E : zE) (p0 : Nat) (p1 : Int32) (h : zH) : Option ((Int32 ⊕ (Nat × Nat)) × zH) :=
  (cko h p0 0).bind fun _ =>
  bnd2 (f_X1_franchisee E p0 p1 h) fun x4 h2 =>
  Sum.elim (fun x5 => (
    (cko h2 x5 10).bind fun _ =>
    bnd2 (f_X11_isActive E x5 h2) fun x10 h8 =>
    if x10 = 0 then (
      f_X1_terminate_b21 E  h8
    ) else (
      (gI h8 x5 10 7).bind fun x12 =>
      if (3 : Int32) ≤ x12 then (
        (gR h8 p0 0 1).bind fun x15 =>
        (cko h8 x15 4).bind fun _ =>
        bnd2 (f_X4_terminate E x15 p1 h8) fun x20 h18 =>
        some (.inl (1 : Int32), h18)
      ) else (
        f_X1_terminate_b21 E  h8
      )
    )
  )) (fun q6 => (
    some (.inr q6, h2)
  )) x4
theorem w_X1_terminate_b0 (C0 : zCx p l e R s m args below meth c D B0 3 "FranchiseLedger" cX1_terminate E 11 175 (Option.some Jvm.ClassFile.FieldType.boolean) "terminate") (hno : ∀ x ∈ c.exceptionTable.toList, False) {r : (Int32 ⊕ (Nat × Nat))} {h' : zH} {p0 : Nat} {p1 : Int32} {h : zH} (hf : f_X1_terminate_b0 E p0 p1 h = some (r, h')) : zW p l e R s m args below meth c D B0 3 (zEnd D B0 R below args s (zoT zoI r) h') h 0 [(0, .ref p0), (1, .int p1)] [] := by
  unfold f_X1_terminate_b0 at hf
  refine zr_aload_n C0 dX1_terminate_0 rfl 0 rfl ?_
  refine zr_iload_n C0 dX1_terminate_1 rfl 1 rfl ?_
  obtain ⟨_, e1, hf⟩ := zbind hf
  obtain ⟨x4, h2, e3, hf⟩ := zbind2 hf
  rcases x4 with x5 | q6
  · have hf := zinl hf
    refine zr_callV_r C0 cv_X1_134_X1 rfl (zcko e1) (m_X1_franchisee C0.2.2.2.2.2.2.1 e3) (by decide) (by decide) rfl rfl (Nat.le_of_ble_eq_true rfl) dX1_terminate_2 rfl ?_
    refine zr_astore_n (i := 2) (lv' := [(2, .ref x5), (0, .ref p0), (1, .int p1)]) C0 dX1_terminate_5 rfl (by decide) (by first | rfl | simp [zst1, zst2, zcat_rf]) ?_
    refine zr_aload_n C0 dX1_terminate_6 rfl 0 rfl ?_
    obtain ⟨_, e7, hf⟩ := zbind hf
    obtain ⟨x10, h8, e9, hf⟩ := zbind2 hf
    refine zr_callV_r C0 cv_X1_208_X11 rfl (zcko e7) (m_X11_isActive C0.2.2.2.2.2.2.1 e9) (by decide) (by decide) rfl rfl (Nat.le_of_ble_eq_true rfl) dX1_terminate_7 rfl ?_
    refine zr_if_eq C0 (tgt := 21) dX1_terminate_10 (by decide) (fun c11 => ?_) (fun c11 => ?_)
    · have hf := zif_t c11 hf
      refine zr_sub [] rfl ?_
      exact w_X1_terminate_b21 C0 hno hf
    · have hf := zif_f c11 hf
      refine zr_aload_n C0 dX1_terminate_13 rfl 0 rfl ?_
      obtain ⟨x12, e13, hf⟩ := zbind hf
      refine zr_get C0 fl_X1_150_X11 dX1_terminate_14 (zgI e13) ?_
      refine zr_iconst C0 (v := 3) dX1_terminate_17 (by decide) ?_
      refine zr_icmp_ge C0 (tgt := 23) dX1_terminate_18 (by decide) (fun c14 => ?_) (fun c14 => ?_)
      · have hf := zif_t c14 hf
        refine zr_aload_n C0 dX1_terminate_23 rfl 1 rfl ?_
        obtain ⟨x15, e16, hf⟩ := zbind hf
        refine zr_get C0 fl_X1_39_X1 dX1_terminate_24 (zgR e16) ?_
        refine zr_iload_n C0 dX1_terminate_27 rfl 2 rfl ?_
        obtain ⟨_, e17, hf⟩ := zbind hf
        obtain ⟨x20, h18, e19, hf⟩ := zbind2 hf
        refine zr_callV_r C0 cv_X1_324_X4 rfl (zcko e17) (m_X4_terminate C0.2.2.2.2.2.2.1 e19) (by decide) (by decide) rfl rfl (Nat.le_of_ble_eq_true rfl) dX1_terminate_28 rfl ?_
        refine zr_iconst C0 (v := 1) dX1_terminate_31 (by decide) ?_
        refine zretW hf ?_
        exact zr_iret C0 (ty := .boolean) rfl (by decide) dX1_terminate_32 rfl
      · have hf := zif_f c14 hf
        refine zr_sub [] rfl ?_
        exact w_X1_terminate_b21 C0 hno hf
  · have hf := zinr hf
    refine zretW hf ?_
    exact zr_callV_t C0 cv_X1_134_X1 rfl (zcko e1) (m_X1_franchisee C0.2.2.2.2.2.2.1 e3) (by decide) (by decide) rfl rfl (Nat.le_of_ble_eq_true rfl) dX1_terminate_2 (zr_out C0 hno rfl)
def f_X1_terminate (E : zE) (p0 : Nat) (p1 : Int32) (h : zH) : Option ((Int32 ⊕ (Nat × Nat)) × zH) := f_X1_terminate_b0 E p0 p1 h
theorem m_X1_terminate {l : Launch} (hst : l.stackTraces = false) {D : zD} {B0 : Nat} {E : zE} {p0 : Nat} {p1 : Int32} {h h' : zH} {r : (Int32 ⊕ (Nat × Nat))} (hf : f_X1_terminate E p0 p1 h = some (r, h')) : zMet l yX1_terminate (ws_ yX1_terminate cX1_terminate 3 (Option.some Jvm.ClassFile.FieldType.boolean)) 11 175 D B0 E [.ref p0, .int p1] h (zoT zoI r) h' := by
  unfold f_X1_terminate at hf
  refine zMet_of hst (by decide +kernel) rfl rfl (Nat.le_of_ble_eq_true rfl) (fun p e R s m below meth c C0 hno => ?_)
  show zW _ _ _ _ _ _ _ _ _ _ _ _ _ _ _ _ [(0, .ref p0), (1, .int p1)] []
  exact w_X1_terminate_b0 C0 hno hf
def f_X1_status_b0 (E : zE) (p0 : Nat) (p1 : Int32) (h : zH) : Option ((Int32 ⊕ (Nat × Nat)) × zH) :=
  (cko h p0 0).bind fun _ =>
  bnd2 (f_X1_franchisee E p0 p1 h) fun x4 h2 =>
  Sum.elim (fun x5 => (
    (gI h2 x5 10 5).bind fun x7 =>
    some (.inl x7, h2)
  )) (fun q6 => (
    some (.inr q6, h2)
  )) x4
theorem w_X1_status_b0 (C0 : zCx p l e R s m args below meth c D B0 2 "FranchiseLedger" cX1_status E 11 175 (Option.some Jvm.ClassFile.FieldType.int) "status") (hno : ∀ x ∈ c.exceptionTable.toList, False) {r : (Int32 ⊕ (Nat × Nat))} {h' : zH} {p0 : Nat} {p1 : Int32} {h : zH} (hf : f_X1_status_b0 E p0 p1 h = some (r, h')) : zW p l e R s m args below meth c D B0 2 (zEnd D B0 R below args s (zoT zoI r) h') h 0 [(0, .ref p0), (1, .int p1)] [] := by
  unfold f_X1_status_b0 at hf
  refine zr_aload_n C0 dX1_status_0 rfl 0 rfl ?_
  refine zr_iload_n C0 dX1_status_1 rfl 1 rfl ?_
  obtain ⟨_, e1, hf⟩ := zbind hf
  obtain ⟨x4, h2, e3, hf⟩ := zbind2 hf
  rcases x4 with x5 | q6
  · have hf := zinl hf
    refine zr_callV_r C0 cv_X1_134_X1 rfl (zcko e1) (m_X1_franchisee C0.2.2.2.2.2.2.1 e3) (by decide) (by decide) rfl rfl (Nat.le_of_ble_eq_true rfl) dX1_status_2 rfl ?_
    obtain ⟨x7, e8, hf⟩ := zbind hf
    refine zr_get C0 fl_X1_141_X11 dX1_status_5 (zgI e8) ?_
    refine zretW hf ?_
    exact zr_iret C0 (ty := .int) rfl rfl dX1_status_8 rfl
  · have hf := zinr hf
    refine zretW hf ?_
    exact zr_callV_t C0 cv_X1_134_X1 rfl (zcko e1) (m_X1_franchisee C0.2.2.2.2.2.2.1 e3) (by decide) (by decide) rfl rfl (Nat.le_of_ble_eq_true rfl) dX1_status_2 (zr_out C0 hno rfl)
def f_X1_status (E : zE) (p0 : Nat) (p1 : Int32) (h : zH) : Option ((Int32 ⊕ (Nat × Nat)) × zH) := f_X1_status_b0 E p0 p1 h
theorem m_X1_status {l : Launch} (hst : l.stackTraces = false) {D : zD} {B0 : Nat} {E : zE} {p0 : Nat} {p1 : Int32} {h h' : zH} {r : (Int32 ⊕ (Nat × Nat))} (hf : f_X1_status E p0 p1 h = some (r, h')) : zMet l yX1_status (ws_ yX1_status cX1_status 2 (Option.some Jvm.ClassFile.FieldType.int)) 11 175 D B0 E [.ref p0, .int p1] h (zoT zoI r) h' := by
  unfold f_X1_status at hf
  refine zMet_of hst (by decide +kernel) rfl rfl (Nat.le_of_ble_eq_true rfl) (fun p e R s m below meth c C0 hno => ?_)
  show zW _ _ _ _ _ _ _ _ _ _ _ _ _ _ _ _ [(0, .ref p0), (1, .int p1)] []
  exact w_X1_status_b0 C0 hno hf
def f_X1_contributions_b0 (E : zE) (p0 : Nat) (p1 : Int32) (h : zH) : Option ((Int64 ⊕ (Nat × Nat)) × zH) :=
  (cko h p0 0).bind fun _ =>
  bnd2 (f_X1_franchisee E p0 p1 h) fun x4 h2 =>
  Sum.elim (fun x5 => (
    (gL h2 x5 10 9).bind fun x7 =>
    some (.inl x7, h2)
  )) (fun q6 => (
    some (.inr q6, h2)
  )) x4
theorem w_X1_contributions_b0 (C0 : zCx p l e R s m args below meth c D B0 2 "FranchiseLedger" cX1_contributions E 11 175 (Option.some Jvm.ClassFile.FieldType.long) "contributions") (hno : ∀ x ∈ c.exceptionTable.toList, False) {r : (Int64 ⊕ (Nat × Nat))} {h' : zH} {p0 : Nat} {p1 : Int32} {h : zH} (hf : f_X1_contributions_b0 E p0 p1 h = some (r, h')) : zW p l e R s m args below meth c D B0 2 (zEnd D B0 R below args s (zoT zoL r) h') h 0 [(0, .ref p0), (1, .int p1)] [] := by
  unfold f_X1_contributions_b0 at hf
  refine zr_aload_n C0 dX1_contributions_0 rfl 0 rfl ?_
  refine zr_iload_n C0 dX1_contributions_1 rfl 1 rfl ?_
  obtain ⟨_, e1, hf⟩ := zbind hf
  obtain ⟨x4, h2, e3, hf⟩ := zbind2 hf
  rcases x4 with x5 | q6
  · have hf := zinl hf
    refine zr_callV_r C0 cv_X1_134_X1 rfl (zcko e1) (m_X1_franchisee C0.2.2.2.2.2.2.1 e3) (by decide) (by decide) rfl rfl (Nat.le_of_ble_eq_true rfl) dX1_contributions_2 rfl ?_
    obtain ⟨x7, e8, hf⟩ := zbind hf
    refine zr_get C0 fl_X1_157_X11 dX1_contributions_5 (zgL e8) ?_
    refine zretW hf ?_
    exact zr_lret C0 rfl dX1_contributions_8 rfl
  · have hf := zinr hf
    refine zretW hf ?_
    exact zr_callV_t C0 cv_X1_134_X1 rfl (zcko e1) (m_X1_franchisee C0.2.2.2.2.2.2.1 e3) (by decide) (by decide) rfl rfl (Nat.le_of_ble_eq_true rfl) dX1_contributions_2 (zr_out C0 hno rfl)
def f_X1_contributions (E : zE) (p0 : Nat) (p1 : Int32) (h : zH) : Option ((Int64 ⊕ (Nat × Nat)) × zH) := f_X1_contributions_b0 E p0 p1 h
theorem m_X1_contributions {l : Launch} (hst : l.stackTraces = false) {D : zD} {B0 : Nat} {E : zE} {p0 : Nat} {p1 : Int32} {h h' : zH} {r : (Int64 ⊕ (Nat × Nat))} (hf : f_X1_contributions E p0 p1 h = some (r, h')) : zMet l yX1_contributions (ws_ yX1_contributions cX1_contributions 2 (Option.some Jvm.ClassFile.FieldType.long)) 11 175 D B0 E [.ref p0, .int p1] h (zoT zoL r) h' := by
  unfold f_X1_contributions at hf
  refine zMet_of hst (by decide +kernel) rfl rfl (Nat.le_of_ble_eq_true rfl) (fun p e R s m below meth c C0 hno => ?_)
  show zW _ _ _ _ _ _ _ _ _ _ _ _ _ _ _ _ [(0, .ref p0), (1, .int p1)] []
  exact w_X1_contributions_b0 C0 hno hf
def f_X1_spent_b0 (E : zE) (p0 : Nat) (p1 : Int32) (h : zH) : Option ((Int64 ⊕ (Nat × Nat)) × zH) :=
  bnd2 (nA h 3 (1 : Int32) (.inl fun _ => 0)) fun q1 h2 =>
  bnd2 (f_X1_inRange E (p1.toInt64) (0 : Int64) (2 : Int64) h2) fun x6 h4 =>
  (zgd .boolean x6).bind fun _ =>
  (sI h4 q1 3 (0 : Int32) x6).bind fun h8 =>
  bnd2 (f_X1_requireArguments E q1 h8) fun x12 h10 =>
  Sum.elim (fun x13 => (
    (gR h10 p0 0 1).bind fun x15 =>
    (gR h10 x15 4 4).bind fun x17 =>
    (dL h10 x17 p1).bind fun x19 =>
    some (.inl x19, h10)
  )) (fun q14 => (
    some (.inr q14, h10)
  )) x12
theorem w_X1_spent_b0 (C0 : zCx p l e R s m args below meth c D B0 2 "FranchiseLedger" cX1_spent E 10 154 (Option.some Jvm.ClassFile.FieldType.long) "spent") (hno : ∀ x ∈ c.exceptionTable.toList, False) {r : (Int64 ⊕ (Nat × Nat))} {h' : zH} {p0 : Nat} {p1 : Int32} {h : zH} (hf : f_X1_spent_b0 E p0 p1 h = some (r, h')) : zW p l e R s m args below meth c D B0 2 (zEnd D B0 R below args s (zoT zoL r) h') h 0 [(0, .ref p0), (1, .int p1)] [] := by
  unfold f_X1_spent_b0 at hf
  refine zr_iconst C0 (v := 1) dX1_spent_0 (by decide) ?_
  obtain ⟨q1, h2, e3, hf⟩ := zbind2 hf
  refine zr_newa C0 (atype := .boolean) (t := 3) q627 rfl (by decide) (fun _ => rfl) dX1_spent_1 e3 ?_
  refine zr_dup C0 dX1_spent_3 rfl ?_
  refine zr_iconst C0 (v := 0) dX1_spent_4 (by decide) ?_
  refine zr_iload_n C0 dX1_spent_5 rfl 1 rfl ?_
  refine zr_i2l C0 dX1_spent_6 ?_
  refine zr_lconst C0 (v := 0) dX1_spent_7 (by decide) ?_
  refine zr_ldc2 C0 (v := 2) q2333 dX1_spent_8 ?_
  obtain ⟨x6, h4, e5, hf⟩ := zbind2 hf
  refine zr_callS_r C0 cv_X1_84 (m_X1_inRange C0.2.2.2.2.2.2.1 e5) (by decide) (by decide) rfl rfl (Nat.le_of_ble_eq_true rfl) dX1_spent_11 rfl ?_
  obtain ⟨_, e7, hf⟩ := zbind hf
  obtain ⟨h8, e9, hf⟩ := zbind hf
  refine zr_zast C0 dX1_spent_14 (zgd_b e7) e9 ?_
  obtain ⟨x12, h10, e11, hf⟩ := zbind2 hf
  rcases x12 with x13 | q14
  · have hf := zinl hf
    refine zr_callS_r C0 cv_X1_168 (m_X1_requireArguments C0.2.2.2.2.2.2.1 e11) (by decide) (by decide) rfl rfl (Nat.le_of_ble_eq_true rfl) dX1_spent_15 rfl ?_
    refine zr_aload_n C0 dX1_spent_18 rfl 0 rfl ?_
    obtain ⟨x15, e16, hf⟩ := zbind hf
    refine zr_get C0 fl_X1_39_X1 dX1_spent_19 (zgR e16) ?_
    obtain ⟨x17, e18, hf⟩ := zbind hf
    refine zr_get C0 fl_X1_332_X4 dX1_spent_22 (zgR e18) ?_
    refine zr_iload_n C0 dX1_spent_25 rfl 1 rfl ?_
    obtain ⟨x19, e20, hf⟩ := zbind hf
    refine zr_lald C0 dX1_spent_26 e20 ?_
    refine zretW hf ?_
    exact zr_lret C0 rfl dX1_spent_27 rfl
  · have hf := zinr hf
    refine zretW hf ?_
    exact zr_callS_t C0 cv_X1_168 (m_X1_requireArguments C0.2.2.2.2.2.2.1 e11) (by decide) (by decide) rfl rfl (Nat.le_of_ble_eq_true rfl) dX1_spent_15 (zr_out C0 hno rfl)
def f_X1_spent (E : zE) (p0 : Nat) (p1 : Int32) (h : zH) : Option ((Int64 ⊕ (Nat × Nat)) × zH) := f_X1_spent_b0 E p0 p1 h
theorem m_X1_spent {l : Launch} (hst : l.stackTraces = false) {D : zD} {B0 : Nat} {E : zE} {p0 : Nat} {p1 : Int32} {h h' : zH} {r : (Int64 ⊕ (Nat × Nat))} (hf : f_X1_spent E p0 p1 h = some (r, h')) : zMet l yX1_spent (ws_ yX1_spent cX1_spent 2 (Option.some Jvm.ClassFile.FieldType.long)) 10 154 D B0 E [.ref p0, .int p1] h (zoT zoL r) h' := by
  unfold f_X1_spent at hf
  refine zMet_of hst (by decide +kernel) rfl rfl (Nat.le_of_ble_eq_true rfl) (fun p e R s m below meth c C0 hno => ?_)
  show zW _ _ _ _ _ _ _ _ _ _ _ _ _ _ _ _ [(0, .ref p0), (1, .int p1)] []
  exact w_X1_spent_b0 C0 hno hf
def f_X1_allowance_b0 (E : zE) (p0 : Nat) (p1 : Int32) (h : zH) : Option ((Int64 ⊕ (Nat × Nat)) × zH) :=
  (cko h p0 0).bind fun _ =>
  bnd2 (f_X1_franchisee E p0 p1 h) fun x4 h2 =>
  Sum.elim (fun x5 => (
    (cko h2 x5 10).bind fun _ =>
    bnd2 (f_X11_allowance E x5 h2) fun x10 h8 =>
    some (.inl x10, h8)
  )) (fun q6 => (
    some (.inr q6, h2)
  )) x4
theorem w_X1_allowance_b0 (C0 : zCx p l e R s m args below meth c D B0 2 "FranchiseLedger" cX1_allowance E 11 175 (Option.some Jvm.ClassFile.FieldType.long) "allowance") (hno : ∀ x ∈ c.exceptionTable.toList, False) {r : (Int64 ⊕ (Nat × Nat))} {h' : zH} {p0 : Nat} {p1 : Int32} {h : zH} (hf : f_X1_allowance_b0 E p0 p1 h = some (r, h')) : zW p l e R s m args below meth c D B0 2 (zEnd D B0 R below args s (zoT zoL r) h') h 0 [(0, .ref p0), (1, .int p1)] [] := by
  unfold f_X1_allowance_b0 at hf
  refine zr_aload_n C0 dX1_allowance_0 rfl 0 rfl ?_
  refine zr_iload_n C0 dX1_allowance_1 rfl 1 rfl ?_
  obtain ⟨_, e1, hf⟩ := zbind hf
  obtain ⟨x4, h2, e3, hf⟩ := zbind2 hf
  rcases x4 with x5 | q6
  · have hf := zinl hf
    refine zr_callV_r C0 cv_X1_134_X1 rfl (zcko e1) (m_X1_franchisee C0.2.2.2.2.2.2.1 e3) (by decide) (by decide) rfl rfl (Nat.le_of_ble_eq_true rfl) dX1_allowance_2 rfl ?_
    obtain ⟨_, e7, hf⟩ := zbind hf
    obtain ⟨x10, h8, e9, hf⟩ := zbind2 hf
    refine zr_callV_r C0 cv_X1_160_X11 rfl (zcko e7) (m_X11_allowance C0.2.2.2.2.2.2.1 e9) (by decide) (by decide) rfl rfl (Nat.le_of_ble_eq_true rfl) dX1_allowance_5 rfl ?_
    refine zretW hf ?_
    exact zr_lret C0 rfl dX1_allowance_8 rfl
  · have hf := zinr hf
    refine zretW hf ?_
    exact zr_callV_t C0 cv_X1_134_X1 rfl (zcko e1) (m_X1_franchisee C0.2.2.2.2.2.2.1 e3) (by decide) (by decide) rfl rfl (Nat.le_of_ble_eq_true rfl) dX1_allowance_2 (zr_out C0 hno rfl)
def f_X1_allowance (E : zE) (p0 : Nat) (p1 : Int32) (h : zH) : Option ((Int64 ⊕ (Nat × Nat)) × zH) := f_X1_allowance_b0 E p0 p1 h
theorem m_X1_allowance {l : Launch} (hst : l.stackTraces = false) {D : zD} {B0 : Nat} {E : zE} {p0 : Nat} {p1 : Int32} {h h' : zH} {r : (Int64 ⊕ (Nat × Nat))} (hf : f_X1_allowance E p0 p1 h = some (r, h')) : zMet l yX1_allowance (ws_ yX1_allowance cX1_allowance 2 (Option.some Jvm.ClassFile.FieldType.long)) 11 175 D B0 E [.ref p0, .int p1] h (zoT zoL r) h' := by
  unfold f_X1_allowance at hf
  refine zMet_of hst (by decide +kernel) rfl rfl (Nat.le_of_ble_eq_true rfl) (fun p e R s m below meth c C0 hno => ?_)
  show zW _ _ _ _ _ _ _ _ _ _ _ _ _ _ _ _ [(0, .ref p0), (1, .int p1)] []
  exact w_X1_allowance_b0 C0 hno hf
def f_X4_shareOf_b41 (E : zE) (s0 : Int64) (h : zH) : Option (Int64 × zH) :=
  some (s0, h)
theorem w_X4_shareOf_b41 (C0 : zCx p l e R s m args below meth c D B0 7 "FranchiseLedger$Books" cX4_shareOf E 4 124 (Option.some Jvm.ClassFile.FieldType.long) "shareOf") {r : Int64} {h' : zH} {s0 : Int64} {h : zH} (hf : f_X4_shareOf_b41 E s0 h = some (r, h')) : zW p l e R s m args below meth c D B0 7 (zEnd D B0 R below args s (zoL r) h') h 41 [] [.long s0] := by
  unfold f_X4_shareOf_b41 at hf
  refine zretW hf ?_
  exact zr_lret C0 rfl dX4_shareOf_41 rfl
def f_X4_shareOf_b0 (E : zE) (p0 : Nat) (p1 : Int32) (p2 : Int64) (p4 : Int32) (h : zH) : Option (Int64 × zH) :=
  (gR h p0 4 4).bind fun x1 =>
  (dL h x1 (1 : Int32)).bind fun x3 =>
  (gR h p0 4 0).bind fun x5 =>
  (cko h x5 15).bind fun _ =>
  bnd2 (f_J2_get E x5 p1 h) fun x10 h8 =>
  (cko h8 x10 10).bind fun _ =>
  (gL h8 x10 10 9).bind fun x12 =>
  if p4 = 0 then (
    (zn0L p2).bind fun _ =>
    f_X4_shareOf_b41 E ((x3 * x12) / p2) h8
  ) else (
    (zn0L p2).bind fun _ =>
    f_X4_shareOf_b41 E ((x3 * x12) - (x3 * x12) / p2 * p2) h8
  )
theorem w_X4_shareOf_b0 (C0 : zCx p l e R s m args below meth c D B0 7 "FranchiseLedger$Books" cX4_shareOf E 4 124 (Option.some Jvm.ClassFile.FieldType.long) "shareOf") {r : Int64} {h' : zH} {p0 : Nat} {p1 : Int32} {p2 : Int64} {p4 : Int32} {h : zH} (hf : f_X4_shareOf_b0 E p0 p1 p2 p4 h = some (r, h')) : zW p l e R s m args below meth c D B0 7 (zEnd D B0 R below args s (zoL r) h') h 0 [(0, .ref p0), (1, .int p1), (2, .long p2), (4, .int p4)] [] := by
  unfold f_X4_shareOf_b0 at hf
  refine zr_aload_n C0 dX4_shareOf_0 rfl 0 rfl ?_
  obtain ⟨x1, e2, hf⟩ := zbind hf
  refine zr_get C0 fl_X4_39_X4 dX4_shareOf_1 (zgR e2) ?_
  refine zr_iconst C0 (v := 1) dX4_shareOf_4 (by decide) ?_
  obtain ⟨x3, e4, hf⟩ := zbind hf
  refine zr_lald C0 dX4_shareOf_5 e4 ?_
  refine zr_aload_n C0 dX4_shareOf_6 rfl 0 rfl ?_
  obtain ⟨x5, e6, hf⟩ := zbind hf
  refine zr_get C0 fl_X4_20_X4 dX4_shareOf_7 (zgR e6) ?_
  refine zr_iload_n C0 dX4_shareOf_10 rfl 1 rfl ?_
  obtain ⟨_, e7, hf⟩ := zbind hf
  obtain ⟨x10, h8, e9, hf⟩ := zbind2 hf
  refine zr_callF_r C0 cv_X4_52_J2 rfl (zcko e7) (m_J2_get C0.2.2.2.2.2.2.1 e9) (by decide) (by decide) rfl rfl (Nat.le_of_ble_eq_true rfl) dX4_shareOf_11 rfl ?_
  obtain ⟨_, e11, hf⟩ := zbind hf
  refine zr_castS C0 (ci := 10) rfl (zcko e11) q843 dX4_shareOf_16 ?_
  obtain ⟨x12, e13, hf⟩ := zbind hf
  refine zr_get C0 fl_X4_158_X11 dX4_shareOf_19 (zgL e13) ?_
  refine zr_lmul C0 dX4_shareOf_22 ?_
  refine zr_lstore (i := 5) (lv' := [(5, .long (x3 * x12)), (0, .ref p0), (1, .int p1), (2, .long p2), (4, .int p4)]) C0 dX4_shareOf_23 (by decide) (by first | rfl | simp [zst1, zst2, zcat_rf]) ?_
  refine zr_iload C0 dX4_shareOf_25 4 rfl ?_
  refine zr_if_eq C0 (tgt := 37) dX4_shareOf_27 (by decide) (fun c14 => ?_) (fun c14 => ?_)
  · have hf := zif_t c14 hf
    refine zr_lload C0 dX4_shareOf_37 0 rfl ?_
    refine zr_lload_n C0 dX4_shareOf_39 rfl 3 rfl ?_
    obtain ⟨_, e15, hf⟩ := zbind hf
    refine zr_ldiv C0 dX4_shareOf_40 (zn0L_ne e15) ?_
    refine zr_sub [] rfl ?_
    exact w_X4_shareOf_b41 C0 hf
  · have hf := zif_f c14 hf
    refine zr_lload C0 dX4_shareOf_30 0 rfl ?_
    refine zr_lload_n C0 dX4_shareOf_32 rfl 3 rfl ?_
    obtain ⟨_, e16, hf⟩ := zbind hf
    refine zr_lrem C0 dX4_shareOf_33 (zn0L_ne e16) ?_
    refine zr_goto C0 (tgt := 41) dX4_shareOf_34 (by decide) ?_
    refine zr_sub [] rfl ?_
    exact w_X4_shareOf_b41 C0 hf
def f_X4_shareOf (E : zE) (p0 : Nat) (p1 : Int32) (p2 : Int64) (p4 : Int32) (h : zH) : Option (Int64 × zH) := f_X4_shareOf_b0 E p0 p1 p2 p4 h
theorem m_X4_shareOf {l : Launch} (hst : l.stackTraces = false) {D : zD} {B0 : Nat} {E : zE} {p0 : Nat} {p1 : Int32} {p2 : Int64} {p4 : Int32} {h h' : zH} {r : Int64} (hf : f_X4_shareOf E p0 p1 p2 p4 h = some (r, h')) : zMet l yX4_shareOf (ws_ yX4_shareOf cX4_shareOf 7 (Option.some Jvm.ClassFile.FieldType.long)) 4 124 D B0 E [.ref p0, .int p1, .long p2, .int p4] h (zoL r) h' := by
  unfold f_X4_shareOf at hf
  refine zMet_of hst (by decide +kernel) rfl rfl (Nat.le_of_ble_eq_true rfl) (fun p e R s m below meth c C0 hno => ?_)
  show zW _ _ _ _ _ _ _ _ _ _ _ _ _ _ _ _ [(0, .ref p0), (1, .int p1), (2, .long p2), (4, .int p4)] []
  exact w_X4_shareOf_b0 C0 hf
def f_X4_share_b132 (E : zE) (s0 : Int64) (s1 : Int64) (h : zH) : Option (Int64 × zH) :=
  some ((s0 + s1), h)
theorem w_X4_share_b132 (C0 : zCx p l e R s m args below meth c D B0 12 "FranchiseLedger$Books" cX4_share E 5 150 (Option.some Jvm.ClassFile.FieldType.long) "share") {r : Int64} {h' : zH} {s0 : Int64} {s1 : Int64} {h : zH} (hf : f_X4_share_b132 E s0 s1 h = some (r, h')) : zW p l e R s m args below meth c D B0 12 (zEnd D B0 R below args s (zoL r) h') h 132 [] [.long s1, .long s0] := by
  unfold f_X4_share_b132 at hf
  refine zr_ladd C0 dX4_share_132 ?_
  refine zretW hf ?_
  exact zr_lret C0 rfl dX4_share_133 rfl
def f_X4_share_b102 (E : zE) (k36 : Nat → Int32 → Int64 → Int64 → Int32 → Int64 → Int32 → zH → Option (Int64 × zH)) (p0 : Nat) (p1 : Int32) (p2 : Int64) (p4 : Int64) (p7 : Int64) (p9 : Int32) (s0 : Int32) (s1 : Int32) (h : zH) : Option (Int64 × zH) :=
  k36 p0 p1 p2 p4 (s0 + s1) p7 (p9 + 1) h
theorem w_X4_share_b102 (C0 : zCx p l e R s m args below meth c D B0 12 "FranchiseLedger$Books" cX4_share E 5 150 (Option.some Jvm.ClassFile.FieldType.long) "share") {r : Int64} {h' : zH} {k36 : Nat → Int32 → Int64 → Int64 → Int32 → Int64 → Int32 → zH → Option (Int64 × zH)} (hk36 : ∀ (p0 : Nat) (p1 : Int32) (p2 : Int64) (p4 : Int64) (p6 : Int32) (p7 : Int64) (p9 : Int32) (h : zH), k36 p0 p1 p2 p4 p6 p7 p9 h = some (r, h') → zW p l e R s m args below meth c D B0 12 (zEnd D B0 R below args s (zoL r) h') h 36 [(0, .ref p0), (1, .int p1), (2, .long p2), (4, .long p4), (6, .int p6), (7, .long p7), (9, .int p9)] []) {p0 : Nat} {p1 : Int32} {p2 : Int64} {p4 : Int64} {p7 : Int64} {p9 : Int32} {s0 : Int32} {s1 : Int32} {h : zH} (hf : f_X4_share_b102 E k36 p0 p1 p2 p4 p7 p9 s0 s1 h = some (r, h')) : zW p l e R s m args below meth c D B0 12 (zEnd D B0 R below args s (zoL r) h') h 102 [(0, .ref p0), (1, .int p1), (2, .long p2), (4, .long p4), (7, .long p7), (9, .int p9)] [.int s1, .int s0] := by
  unfold f_X4_share_b102 at hf
  refine zr_iadd C0 dX4_share_102 ?_
  refine zr_istore (i := 6) (lv' := [(6, .int (s0 + s1)), (0, .ref p0), (1, .int p1), (2, .long p2), (4, .long p4), (7, .long p7), (9, .int p9)]) C0 dX4_share_103 (by decide) (by first | rfl | simp [zst1, zst2, zcat_rf]) ?_
  refine zr_iinc (lv' := [(9, .int (p9 + 1)), (6, .int (s0 + s1)), (0, .ref p0), (1, .int p1), (2, .long p2), (4, .long p4), (7, .long p7)]) C0 dX4_share_105 6 rfl rfl (by decide) (by first | rfl | simp [zst1, zst2, zcat_rf]) ?_
  refine zr_goto C0 (tgt := 36) dX4_share_108 (by decide) ?_
  refine zr_sub [2, 3, 4, 5, 1, 6, 0] rfl ?_
  exact hk36 _ _ _ _ _ _ _ _ hf
def f_X4_share_b97 (E : zE) (k36 : Nat → Int32 → Int64 → Int64 → Int32 → Int64 → Int32 → zH → Option (Int64 × zH)) (p0 : Nat) (p1 : Int32) (p2 : Int64) (p4 : Int64) (p7 : Int64) (p9 : Int32) (s0 : Int32) (h : zH) : Option (Int64 × zH) :=
  f_X4_share_b102 E k36 p0 p1 p2 p4 p7 p9 s0 (1 : Int32) h
theorem w_X4_share_b97 (C0 : zCx p l e R s m args below meth c D B0 12 "FranchiseLedger$Books" cX4_share E 5 150 (Option.some Jvm.ClassFile.FieldType.long) "share") {r : Int64} {h' : zH} {k36 : Nat → Int32 → Int64 → Int64 → Int32 → Int64 → Int32 → zH → Option (Int64 × zH)} (hk36 : ∀ (p0 : Nat) (p1 : Int32) (p2 : Int64) (p4 : Int64) (p6 : Int32) (p7 : Int64) (p9 : Int32) (h : zH), k36 p0 p1 p2 p4 p6 p7 p9 h = some (r, h') → zW p l e R s m args below meth c D B0 12 (zEnd D B0 R below args s (zoL r) h') h 36 [(0, .ref p0), (1, .int p1), (2, .long p2), (4, .long p4), (6, .int p6), (7, .long p7), (9, .int p9)] []) {p0 : Nat} {p1 : Int32} {p2 : Int64} {p4 : Int64} {p7 : Int64} {p9 : Int32} {s0 : Int32} {h : zH} (hf : f_X4_share_b97 E k36 p0 p1 p2 p4 p7 p9 s0 h = some (r, h')) : zW p l e R s m args below meth c D B0 12 (zEnd D B0 R below args s (zoL r) h') h 97 [(0, .ref p0), (1, .int p1), (2, .long p2), (4, .long p4), (7, .long p7), (9, .int p9)] [.int s0] := by
  unfold f_X4_share_b97 at hf
  refine zr_iconst C0 (v := 1) dX4_share_97 (by decide) ?_
  refine zr_goto C0 (tgt := 102) dX4_share_98 (by decide) ?_
  exact w_X4_share_b102 C0 hk36 hf
def f_X4_share_b101 (E : zE) (k36 : Nat → Int32 → Int64 → Int64 → Int32 → Int64 → Int32 → zH → Option (Int64 × zH)) (p0 : Nat) (p1 : Int32) (p2 : Int64) (p4 : Int64) (p7 : Int64) (p9 : Int32) (s0 : Int32) (h : zH) : Option (Int64 × zH) :=
  f_X4_share_b102 E k36 p0 p1 p2 p4 p7 p9 s0 (0 : Int32) h
theorem w_X4_share_b101 (C0 : zCx p l e R s m args below meth c D B0 12 "FranchiseLedger$Books" cX4_share E 5 150 (Option.some Jvm.ClassFile.FieldType.long) "share") {r : Int64} {h' : zH} {k36 : Nat → Int32 → Int64 → Int64 → Int32 → Int64 → Int32 → zH → Option (Int64 × zH)} (hk36 : ∀ (p0 : Nat) (p1 : Int32) (p2 : Int64) (p4 : Int64) (p6 : Int32) (p7 : Int64) (p9 : Int32) (h : zH), k36 p0 p1 p2 p4 p6 p7 p9 h = some (r, h') → zW p l e R s m args below meth c D B0 12 (zEnd D B0 R below args s (zoL r) h') h 36 [(0, .ref p0), (1, .int p1), (2, .long p2), (4, .long p4), (6, .int p6), (7, .long p7), (9, .int p9)] []) {p0 : Nat} {p1 : Int32} {p2 : Int64} {p4 : Int64} {p7 : Int64} {p9 : Int32} {s0 : Int32} {h : zH} (hf : f_X4_share_b101 E k36 p0 p1 p2 p4 p7 p9 s0 h = some (r, h')) : zW p l e R s m args below meth c D B0 12 (zEnd D B0 R below args s (zoL r) h') h 101 [(0, .ref p0), (1, .int p1), (2, .long p2), (4, .long p4), (7, .long p7), (9, .int p9)] [.int s0] := by
  unfold f_X4_share_b101 at hf
  refine zr_iconst C0 (v := 0) dX4_share_101 (by decide) ?_
  exact w_X4_share_b102 C0 hk36 hf
def f_X4_share_l36 (E : zE) : Nat → Nat → Int32 → Int64 → Int64 → Int32 → Int64 → Int32 → zH → Option (Int64 × zH)
  | 0, _, _, _, _, _, _, _, _ => none
  | n + 1, p0, p1, p2, p4, p6, p7, p9, h =>
    (gR h p0 4 0).bind fun x1 =>
    (cko h x1 15).bind fun _ =>
    bnd2 (f_J2_size E x1 h) fun x6 h4 =>
    if x6 ≤ p9 then (
      (cko h4 p0 4).bind fun _ =>
      bnd2 (f_X4_shareOf E p0 p1 p2 (0 : Int32) h4) fun x11 h9 =>
      if p4 ≤ (p6.toInt64) then (
        f_X4_share_b132 E x11 (0 : Int64) h9
      ) else (
        f_X4_share_b132 E x11 (1 : Int64) h9
      )
    ) else (
      (cko h4 p0 4).bind fun _ =>
      bnd2 (f_X4_shareOf E p0 p9 p2 (0 : Int32) h4) fun x16 h14 =>
      (cko h14 p0 4).bind fun _ =>
      bnd2 (f_X4_shareOf E p0 p9 p2 (1 : Int32) h14) fun x20 h18 =>
      if p7 < x20 then (
        f_X4_share_b97 E (f_X4_share_l36 E n) p0 p1 p2 (p4 - x16) p7 p9 p6 h18
      ) else (
        if x20 = p7 then (
          if p1 ≤ p9 then (
            f_X4_share_b101 E (f_X4_share_l36 E n) p0 p1 p2 (p4 - x16) p7 p9 p6 h18
          ) else (
            f_X4_share_b97 E (f_X4_share_l36 E n) p0 p1 p2 (p4 - x16) p7 p9 p6 h18
          )
        ) else (
          f_X4_share_b101 E (f_X4_share_l36 E n) p0 p1 p2 (p4 - x16) p7 p9 p6 h18
        )
      )
    )
theorem w_X4_share_l36 (C0 : zCx p l e R s m args below meth c D B0 12 "FranchiseLedger$Books" cX4_share E 5 150 (Option.some Jvm.ClassFile.FieldType.long) "share") {r : Int64} {h' : zH} : ∀ (n : Nat) (p0 : Nat) (p1 : Int32) (p2 : Int64) (p4 : Int64) (p6 : Int32) (p7 : Int64) (p9 : Int32) (h : zH), f_X4_share_l36 E n p0 p1 p2 p4 p6 p7 p9 h = some (r, h') → zW p l e R s m args below meth c D B0 12 (zEnd D B0 R below args s (zoL r) h') h 36 [(0, .ref p0), (1, .int p1), (2, .long p2), (4, .long p4), (6, .int p6), (7, .long p7), (9, .int p9)] [] := by
  intro n
  induction n with
  | zero =>
    intro p0 p1 p2 p4 p6 p7 p9 h hf
    unfold f_X4_share_l36 at hf
    cases hf
  | succ n ih =>
    intro p0 p1 p2 p4 p6 p7 p9 h hf
    unfold f_X4_share_l36 at hf
    refine zr_iload C0 dX4_share_36 6 rfl ?_
    refine zr_aload_n C0 dX4_share_38 rfl 0 rfl ?_
    obtain ⟨x1, e2, hf⟩ := zbind hf
    refine zr_get C0 fl_X4_20_X4 dX4_share_39 (zgR e2) ?_
    obtain ⟨_, e3, hf⟩ := zbind hf
    obtain ⟨x6, h4, e5, hf⟩ := zbind2 hf
    refine zr_callF_r C0 cv_X4_46_J2 rfl (zcko e3) (m_J2_size C0.2.2.2.2.2.2.1 e5) (by decide) (by decide) rfl rfl (Nat.le_of_ble_eq_true rfl) dX4_share_42 rfl ?_
    refine zr_icmp_ge C0 (tgt := 111) dX4_share_47 (by decide) (fun c7 => ?_) (fun c7 => ?_)
    · have hf := zif_t c7 hf
      refine zr_aload_n C0 dX4_share_111 rfl 0 rfl ?_
      refine zr_iload_n C0 dX4_share_112 rfl 1 rfl ?_
      refine zr_lload_n C0 dX4_share_113 rfl 2 rfl ?_
      refine zr_iconst C0 (v := 0) dX4_share_114 (by decide) ?_
      obtain ⟨_, e8, hf⟩ := zbind hf
      obtain ⟨x11, h9, e10, hf⟩ := zbind2 hf
      refine zr_callV_r C0 cv_X4_226_X4 rfl (zcko e8) (m_X4_shareOf C0.2.2.2.2.2.2.1 e10) (by decide) (by decide) rfl rfl (Nat.le_of_ble_eq_true rfl) dX4_share_115 rfl ?_
      refine zr_iload C0 dX4_share_118 4 rfl ?_
      refine zr_i2l C0 dX4_share_120 ?_
      refine zr_lload C0 dX4_share_121 3 rfl ?_
      refine zr_lcmp C0 dX4_share_123 ?_
      refine zr_if_ge C0 (tgt := 131) dX4_share_124 (by decide) (fun c12 => ?_) (fun c12 => ?_)
      · have hf := zif_t (zl_ge.mp c12) hf
        refine zr_lconst C0 (v := 0) dX4_share_131 (by decide) ?_
        refine zr_sub [] rfl ?_
        exact w_X4_share_b132 C0 hf
      · have hf := zif_f (zl_gen.mp c12) hf
        refine zr_lconst C0 (v := 1) dX4_share_127 (by decide) ?_
        refine zr_goto C0 (tgt := 132) dX4_share_128 (by decide) ?_
        refine zr_sub [] rfl ?_
        exact w_X4_share_b132 C0 hf
    · have hf := zif_f c7 hf
      refine zr_lload C0 dX4_share_50 3 rfl ?_
      refine zr_aload_n C0 dX4_share_52 rfl 0 rfl ?_
      refine zr_iload C0 dX4_share_53 6 rfl ?_
      refine zr_lload_n C0 dX4_share_55 rfl 2 rfl ?_
      refine zr_iconst C0 (v := 0) dX4_share_56 (by decide) ?_
      obtain ⟨_, e13, hf⟩ := zbind hf
      obtain ⟨x16, h14, e15, hf⟩ := zbind2 hf
      refine zr_callV_r C0 cv_X4_226_X4 rfl (zcko e13) (m_X4_shareOf C0.2.2.2.2.2.2.1 e15) (by decide) (by decide) rfl rfl (Nat.le_of_ble_eq_true rfl) dX4_share_57 rfl ?_
      refine zr_lsub C0 dX4_share_60 ?_
      refine zr_lstore (i := 4) (lv' := [(4, .long (p4 - x16)), (0, .ref p0), (1, .int p1), (2, .long p2), (6, .int p6), (7, .long p7), (9, .int p9)]) C0 dX4_share_61 (by decide) (by first | rfl | simp [zst1, zst2, zcat_rf]) ?_
      refine zr_aload_n C0 dX4_share_63 rfl 1 rfl ?_
      refine zr_iload C0 dX4_share_64 6 rfl ?_
      refine zr_lload_n C0 dX4_share_66 rfl 3 rfl ?_
      refine zr_iconst C0 (v := 1) dX4_share_67 (by decide) ?_
      obtain ⟨_, e17, hf⟩ := zbind hf
      obtain ⟨x20, h18, e19, hf⟩ := zbind2 hf
      refine zr_callV_r C0 cv_X4_226_X4 rfl (zcko e17) (m_X4_shareOf C0.2.2.2.2.2.2.1 e19) (by decide) (by decide) rfl rfl (Nat.le_of_ble_eq_true rfl) dX4_share_68 rfl ?_
      refine zr_lstore (i := 10) (lv' := [(10, .long x20), (4, .long (p4 - x16)), (0, .ref p0), (1, .int p1), (2, .long p2), (6, .int p6), (7, .long p7), (9, .int p9)]) C0 dX4_share_71 (by decide) (by first | rfl | simp [zst1, zst2, zcat_rf]) ?_
      refine zr_iload C0 dX4_share_73 5 rfl ?_
      refine zr_lload C0 dX4_share_75 0 rfl ?_
      refine zr_lload C0 dX4_share_77 6 rfl ?_
      refine zr_lcmp C0 dX4_share_79 ?_
      refine zr_if_gt C0 (tgt := 97) dX4_share_80 (by decide) (fun c21 => ?_) (fun c21 => ?_)
      · have hf := zif_t (zl_gt.mp c21) hf
        refine zr_sub [2, 3, 4, 1, 6, 7] rfl ?_
        exact w_X4_share_b97 C0 ih hf
      · have hf := zif_f (zl_gtn.mp c21) hf
        refine zr_lload C0 dX4_share_83 0 rfl ?_
        refine zr_lload C0 dX4_share_85 6 rfl ?_
        refine zr_lcmp C0 dX4_share_87 ?_
        refine zr_if_ne C0 (tgt := 101) dX4_share_88 (by decide) (fun c22 => ?_) (fun c22 => ?_)
        · have hf := zif_f (zl_ne.mp c22) hf
          refine zr_sub [2, 3, 4, 1, 6, 7] rfl ?_
          exact w_X4_share_b101 C0 ih hf
        · have hf := zif_t (zl_nen.mp c22) hf
          refine zr_iload C0 dX4_share_91 7 rfl ?_
          refine zr_iload_n C0 dX4_share_93 rfl 3 rfl ?_
          refine zr_icmp_ge C0 (tgt := 101) dX4_share_94 (by decide) (fun c23 => ?_) (fun c23 => ?_)
          · have hf := zif_t c23 hf
            refine zr_sub [2, 3, 4, 1, 6, 7] rfl ?_
            exact w_X4_share_b101 C0 ih hf
          · have hf := zif_f c23 hf
            refine zr_sub [2, 3, 4, 1, 6, 7] rfl ?_
            exact w_X4_share_b97 C0 ih hf
def f_X4_share_b0 (E : zE) (p0 : Nat) (p1 : Int32) (h : zH) : Option (Int64 × zH) :=
  (cko h p0 4).bind fun _ =>
  bnd2 (f_X4_contributions E p0 h) fun x4 h2 =>
  if x4 = (0 : Int64) then (
    some ((0 : Int64), h2)
  ) else (
    (gR h2 p0 4 4).bind fun x6 =>
    (dL h2 x6 (1 : Int32)).bind fun x8 =>
    (cko h2 p0 4).bind fun _ =>
    bnd2 (f_X4_shareOf E p0 p1 x4 (1 : Int32) h2) fun x13 h11 =>
    f_X4_share_l36 E E.1 p0 p1 x4 x8 (0 : Int32) x13 (0 : Int32) h11
  )
theorem w_X4_share_b0 (C0 : zCx p l e R s m args below meth c D B0 12 "FranchiseLedger$Books" cX4_share E 5 150 (Option.some Jvm.ClassFile.FieldType.long) "share") {r : Int64} {h' : zH} {p0 : Nat} {p1 : Int32} {h : zH} (hf : f_X4_share_b0 E p0 p1 h = some (r, h')) : zW p l e R s m args below meth c D B0 12 (zEnd D B0 R below args s (zoL r) h') h 0 [(0, .ref p0), (1, .int p1)] [] := by
  unfold f_X4_share_b0 at hf
  refine zr_aload_n C0 dX4_share_0 rfl 0 rfl ?_
  obtain ⟨_, e1, hf⟩ := zbind hf
  obtain ⟨x4, h2, e3, hf⟩ := zbind2 hf
  refine zr_callV_r C0 cv_X4_206_X4 rfl (zcko e1) (m_X4_contributions C0.2.2.2.2.2.2.1 e3) (by decide) (by decide) rfl rfl (Nat.le_of_ble_eq_true rfl) dX4_share_1 rfl ?_
  refine zr_lstore_n (i := 2) (lv' := [(2, .long x4), (0, .ref p0), (1, .int p1)]) C0 dX4_share_4 rfl (by decide) (by first | rfl | simp [zst1, zst2, zcat_rf]) ?_
  refine zr_lload_n C0 dX4_share_5 rfl 0 rfl ?_
  refine zr_lconst C0 (v := 0) dX4_share_6 (by decide) ?_
  refine zr_lcmp C0 dX4_share_7 ?_
  refine zr_if_ne C0 (tgt := 13) dX4_share_8 (by decide) (fun c5 => ?_) (fun c5 => ?_)
  · have hf := zif_f (zl_ne.mp c5) hf
    refine zr_aload_n C0 dX4_share_13 rfl 1 rfl ?_
    obtain ⟨x6, e7, hf⟩ := zbind hf
    refine zr_get C0 fl_X4_39_X4 dX4_share_14 (zgR e7) ?_
    refine zr_iconst C0 (v := 1) dX4_share_17 (by decide) ?_
    obtain ⟨x8, e9, hf⟩ := zbind hf
    refine zr_lald C0 dX4_share_18 e9 ?_
    refine zr_lstore (i := 4) (lv' := [(4, .long x8), (2, .long x4), (0, .ref p0), (1, .int p1)]) C0 dX4_share_19 (by decide) (by first | rfl | simp [zst1, zst2, zcat_rf]) ?_
    refine zr_iconst C0 (v := 0) dX4_share_21 (by decide) ?_
    refine zr_istore (i := 6) (lv' := [(6, .int (0 : Int32)), (4, .long x8), (2, .long x4), (0, .ref p0), (1, .int p1)]) C0 dX4_share_22 (by decide) (by first | rfl | simp [zst1, zst2, zcat_rf]) ?_
    refine zr_aload_n C0 dX4_share_24 rfl 3 rfl ?_
    refine zr_iload_n C0 dX4_share_25 rfl 4 rfl ?_
    refine zr_lload_n C0 dX4_share_26 rfl 2 rfl ?_
    refine zr_iconst C0 (v := 1) dX4_share_27 (by decide) ?_
    obtain ⟨_, e10, hf⟩ := zbind hf
    obtain ⟨x13, h11, e12, hf⟩ := zbind2 hf
    refine zr_callV_r C0 cv_X4_226_X4 rfl (zcko e10) (m_X4_shareOf C0.2.2.2.2.2.2.1 e12) (by decide) (by decide) rfl rfl (Nat.le_of_ble_eq_true rfl) dX4_share_28 rfl ?_
    refine zr_lstore (i := 7) (lv' := [(7, .long x13), (6, .int (0 : Int32)), (4, .long x8), (2, .long x4), (0, .ref p0), (1, .int p1)]) C0 dX4_share_31 (by decide) (by first | rfl | simp [zst1, zst2, zcat_rf]) ?_
    refine zr_iconst C0 (v := 0) dX4_share_33 (by decide) ?_
    refine zr_istore (i := 9) (lv' := [(9, .int (0 : Int32)), (7, .long x13), (6, .int (0 : Int32)), (4, .long x8), (2, .long x4), (0, .ref p0), (1, .int p1)]) C0 dX4_share_34 (by decide) (by first | rfl | simp [zst1, zst2, zcat_rf]) ?_
    refine zr_sub [5, 6, 4, 3, 2, 1, 0] rfl ?_
    exact w_X4_share_l36 C0 _ _ _ _ _ _ _ _ _ hf
  · have hf := zif_t (zl_nen.mp c5) hf
    refine zr_lconst C0 (v := 0) dX4_share_11 (by decide) ?_
    refine zretW hf ?_
    exact zr_lret C0 rfl dX4_share_12 rfl
def f_X4_share (E : zE) (p0 : Nat) (p1 : Int32) (h : zH) : Option (Int64 × zH) := f_X4_share_b0 E p0 p1 h
theorem m_X4_share {l : Launch} (hst : l.stackTraces = false) {D : zD} {B0 : Nat} {E : zE} {p0 : Nat} {p1 : Int32} {h h' : zH} {r : Int64} (hf : f_X4_share E p0 p1 h = some (r, h')) : zMet l yX4_share (ws_ yX4_share cX4_share 12 (Option.some Jvm.ClassFile.FieldType.long)) 5 150 D B0 E [.ref p0, .int p1] h (zoL r) h' := by
  unfold f_X4_share at hf
  refine zMet_of hst (by decide +kernel) rfl rfl (Nat.le_of_ble_eq_true rfl) (fun p e R s m below meth c C0 hno => ?_)
  show zW _ _ _ _ _ _ _ _ _ _ _ _ _ _ _ _ [(0, .ref p0), (1, .int p1)] []
  exact w_X4_share_b0 C0 hf
def f_X1_nationalShare_b0 (E : zE) (p0 : Nat) (p1 : Int32) (h : zH) : Option ((Int64 ⊕ (Nat × Nat)) × zH) :=
  bnd2 (nA h 3 (1 : Int32) (.inl fun _ => 0)) fun q1 h2 =>
  (cko h2 p0 0).bind fun _ =>
  bnd2 (f_X1_isFranchisee E p0 p1 h2) fun x7 h5 =>
  (zgd .boolean x7).bind fun _ =>
  (sI h5 q1 3 (0 : Int32) x7).bind fun h9 =>
  bnd2 (f_X1_requireIndex E q1 h9) fun x13 h11 =>
  Sum.elim (fun x14 => (
    (gR h11 p0 0 1).bind fun x16 =>
    (cko h11 x16 4).bind fun _ =>
    bnd2 (f_X4_share E x16 p1 h11) fun x21 h19 =>
    some (.inl x21, h19)
  )) (fun q15 => (
    some (.inr q15, h11)
  )) x13
theorem w_X1_nationalShare_b0 (C0 : zCx p l e R s m args below meth c D B0 2 "FranchiseLedger" cX1_nationalShare E 10 181 (Option.some Jvm.ClassFile.FieldType.long) "nationalShare") (hno : ∀ x ∈ c.exceptionTable.toList, False) {r : (Int64 ⊕ (Nat × Nat))} {h' : zH} {p0 : Nat} {p1 : Int32} {h : zH} (hf : f_X1_nationalShare_b0 E p0 p1 h = some (r, h')) : zW p l e R s m args below meth c D B0 2 (zEnd D B0 R below args s (zoT zoL r) h') h 0 [(0, .ref p0), (1, .int p1)] [] := by
  unfold f_X1_nationalShare_b0 at hf
  refine zr_iconst C0 (v := 1) dX1_nationalShare_0 (by decide) ?_
  obtain ⟨q1, h2, e3, hf⟩ := zbind2 hf
  refine zr_newa C0 (atype := .boolean) (t := 3) q627 rfl (by decide) (fun _ => rfl) dX1_nationalShare_1 e3 ?_
  refine zr_dup C0 dX1_nationalShare_3 rfl ?_
  refine zr_iconst C0 (v := 0) dX1_nationalShare_4 (by decide) ?_
  refine zr_aload_n C0 dX1_nationalShare_5 rfl 0 rfl ?_
  refine zr_iload_n C0 dX1_nationalShare_6 rfl 1 rfl ?_
  obtain ⟨_, e4, hf⟩ := zbind hf
  obtain ⟨x7, h5, e6, hf⟩ := zbind2 hf
  refine zr_callV_r C0 cv_X1_88_X1 rfl (zcko e4) (m_X1_isFranchisee C0.2.2.2.2.2.2.1 e6) (by decide) (by decide) rfl rfl (Nat.le_of_ble_eq_true rfl) dX1_nationalShare_7 rfl ?_
  obtain ⟨_, e8, hf⟩ := zbind hf
  obtain ⟨h9, e10, hf⟩ := zbind hf
  refine zr_zast C0 dX1_nationalShare_10 (zgd_b e8) e10 ?_
  obtain ⟨x13, h11, e12, hf⟩ := zbind2 hf
  rcases x13 with x14 | q15
  · have hf := zinl hf
    refine zr_callS_r C0 cv_X1_92 (m_X1_requireIndex C0.2.2.2.2.2.2.1 e12) (by decide) (by decide) rfl rfl (Nat.le_of_ble_eq_true rfl) dX1_nationalShare_11 rfl ?_
    refine zr_aload_n C0 dX1_nationalShare_14 rfl 0 rfl ?_
    obtain ⟨x16, e17, hf⟩ := zbind hf
    refine zr_get C0 fl_X1_39_X1 dX1_nationalShare_15 (zgR e17) ?_
    refine zr_iload_n C0 dX1_nationalShare_18 rfl 1 rfl ?_
    obtain ⟨_, e18, hf⟩ := zbind hf
    obtain ⟨x21, h19, e20, hf⟩ := zbind2 hf
    refine zr_callV_r C0 cv_X1_338_X4 rfl (zcko e18) (m_X4_share C0.2.2.2.2.2.2.1 e20) (by decide) (by decide) rfl rfl (Nat.le_of_ble_eq_true rfl) dX1_nationalShare_19 rfl ?_
    refine zretW hf ?_
    exact zr_lret C0 rfl dX1_nationalShare_22 rfl
  · have hf := zinr hf
    refine zretW hf ?_
    exact zr_callS_t C0 cv_X1_92 (m_X1_requireIndex C0.2.2.2.2.2.2.1 e12) (by decide) (by decide) rfl rfl (Nat.le_of_ble_eq_true rfl) dX1_nationalShare_11 (zr_out C0 hno rfl)
def f_X1_nationalShare (E : zE) (p0 : Nat) (p1 : Int32) (h : zH) : Option ((Int64 ⊕ (Nat × Nat)) × zH) := f_X1_nationalShare_b0 E p0 p1 h
theorem m_X1_nationalShare {l : Launch} (hst : l.stackTraces = false) {D : zD} {B0 : Nat} {E : zE} {p0 : Nat} {p1 : Int32} {h h' : zH} {r : (Int64 ⊕ (Nat × Nat))} (hf : f_X1_nationalShare E p0 p1 h = some (r, h')) : zMet l yX1_nationalShare (ws_ yX1_nationalShare cX1_nationalShare 2 (Option.some Jvm.ClassFile.FieldType.long)) 10 181 D B0 E [.ref p0, .int p1] h (zoT zoL r) h' := by
  unfold f_X1_nationalShare at hf
  refine zMet_of hst (by decide +kernel) rfl rfl (Nat.le_of_ble_eq_true rfl) (fun p e R s m below meth c C0 hno => ?_)
  show zW _ _ _ _ _ _ _ _ _ _ _ _ _ _ _ _ [(0, .ref p0), (1, .int p1)] []
  exact w_X1_nationalShare_b0 C0 hno hf
def f_X12_request_b0 (E : zE) (p0 : Nat) (p1 : Int32) (p2 : Int32) (p3 : Int64) (h : zH) : Option (Unit × zH) :=
  (pF h p0 11 0 (.int (1 : Int32))).bind fun h1 =>
  (pF h1 p0 11 1 (.int p1)).bind fun h3 =>
  (pF h3 p0 11 2 (.int p2)).bind fun h5 =>
  (pF h5 p0 11 6 (.long p3)).bind fun h7 =>
  (pF h7 p0 11 3 (.int (0 : Int32))).bind fun h9 =>
  (pF h9 p0 11 4 (.int (0 : Int32))).bind fun h11 =>
  (pF h11 p0 11 5 (.int (0 : Int32))).bind fun h13 =>
  some ((), h13)
theorem w_X12_request_b0 (C0 : zCx p l e R s m args below meth c D B0 5 "FranchiseLedger$Transfer" cX12_request E 1 60 (Option.none : Option Jvm.ClassFile.FieldType) "request") {r : Unit} {h' : zH} {p0 : Nat} {p1 : Int32} {p2 : Int32} {p3 : Int64} {h : zH} (hf : f_X12_request_b0 E p0 p1 p2 p3 h = some (r, h')) : zW p l e R s m args below meth c D B0 5 (zEnd D B0 R below args s (zoV r) h') h 0 [(0, .ref p0), (1, .int p1), (2, .int p2), (3, .long p3)] [] := by
  unfold f_X12_request_b0 at hf
  refine zr_aload_n C0 dX12_request_0 rfl 0 rfl ?_
  refine zr_iconst C0 (v := 1) dX12_request_1 (by decide) ?_
  obtain ⟨h1, e2, hf⟩ := zbind hf
  refine zr_put C0 pl_X12_9_X12 dX12_request_2 (fun h => by cases h) rfl rfl e2 ?_
  refine zr_aload_n C0 dX12_request_5 rfl 0 rfl ?_
  refine zr_iload_n C0 dX12_request_6 rfl 1 rfl ?_
  obtain ⟨h3, e4, hf⟩ := zbind hf
  refine zr_put C0 pl_X12_15_X12 dX12_request_7 (fun h => by cases h) rfl rfl e4 ?_
  refine zr_aload_n C0 dX12_request_10 rfl 0 rfl ?_
  refine zr_iload_n C0 dX12_request_11 rfl 2 rfl ?_
  obtain ⟨h5, e6, hf⟩ := zbind hf
  refine zr_put C0 pl_X12_18_X12 dX12_request_12 (fun h => by cases h) rfl rfl e6 ?_
  refine zr_aload_n C0 dX12_request_15 rfl 0 rfl ?_
  refine zr_lload_n C0 dX12_request_16 rfl 3 rfl ?_
  obtain ⟨h7, e8, hf⟩ := zbind hf
  refine zr_put C0 pl_X12_30_X12 dX12_request_17 (fun h => by cases h) rfl rfl e8 ?_
  refine zr_aload_n C0 dX12_request_20 rfl 0 rfl ?_
  refine zr_iconst C0 (v := 0) dX12_request_21 (by decide) ?_
  obtain ⟨h9, e10, hf⟩ := zbind hf
  refine zr_put C0 pl_X12_21_X12 dX12_request_22 (fun h => by cases h) rfl rfl e10 ?_
  refine zr_aload_n C0 dX12_request_25 rfl 0 rfl ?_
  refine zr_iconst C0 (v := 0) dX12_request_26 (by decide) ?_
  obtain ⟨h11, e12, hf⟩ := zbind hf
  refine zr_put C0 pl_X12_24_X12 dX12_request_27 (fun h => by cases h) rfl rfl e12 ?_
  refine zr_aload_n C0 dX12_request_30 rfl 0 rfl ?_
  refine zr_iconst C0 (v := 0) dX12_request_31 (by decide) ?_
  obtain ⟨h13, e14, hf⟩ := zbind hf
  refine zr_put C0 pl_X12_27_X12 dX12_request_32 (fun h => by cases h) rfl rfl e14 ?_
  refine zretW hf ?_
  exact zr_vret C0 rfl dX12_request_35 rfl
def f_X12_request (E : zE) (p0 : Nat) (p1 : Int32) (p2 : Int32) (p3 : Int64) (h : zH) : Option (Unit × zH) := f_X12_request_b0 E p0 p1 p2 p3 h
theorem m_X12_request {l : Launch} (hst : l.stackTraces = false) {D : zD} {B0 : Nat} {E : zE} {p0 : Nat} {p1 : Int32} {p2 : Int32} {p3 : Int64} {h h' : zH} {r : Unit} (hf : f_X12_request E p0 p1 p2 p3 h = some (r, h')) : zMet l yX12_request (ws_ yX12_request cX12_request 5 (Option.none : Option Jvm.ClassFile.FieldType)) 1 60 D B0 E [.ref p0, .int p1, .int p2, .long p3] h (zoV r) h' := by
  unfold f_X12_request at hf
  refine zMet_of hst (by decide +kernel) rfl rfl (Nat.le_of_ble_eq_true rfl) (fun p e R s m below meth c C0 hno => ?_)
  show zW _ _ _ _ _ _ _ _ _ _ _ _ _ _ _ _ [(0, .ref p0), (1, .int p1), (2, .int p2), (3, .long p3)] []
  exact w_X12_request_b0 C0 hf
def f_X1_requestTransfer_b76 (E : zE) (h : zH) : Option ((Int32 ⊕ (Nat × Nat)) × zH) :=
  some (.inl (0 : Int32), h)
theorem w_X1_requestTransfer_b76 (C0 : zCx p l e R s m args below meth c D B0 6 "FranchiseLedger" cX1_requestTransfer E 11 175 (Option.some Jvm.ClassFile.FieldType.boolean) "requestTransfer") (hno : ∀ x ∈ c.exceptionTable.toList, False) {r : (Int32 ⊕ (Nat × Nat))} {h' : zH} {h : zH} (hf : f_X1_requestTransfer_b76 E  h = some (r, h')) : zW p l e R s m args below meth c D B0 6 (zEnd D B0 R below args s (zoT zoI r) h') h 76 [] [] := by
  unfold f_X1_requestTransfer_b76 at hf
  refine zr_iconst C0 (v := 0) dX1_requestTransfer_76 (by decide) ?_
  refine zretW hf ?_
  exact zr_iret C0 (ty := .boolean) rfl (by decide) dX1_requestTransfer_77 rfl
def f_X1_requestTransfer_b0 (E : zE) (p0 : Nat) (p1 : Int32) (p2 : Int32) (p3 : Int64) (h : zH) : Option ((Int32 ⊕ (Nat × Nat)) × zH) :=
  (cko h p0 0).bind fun _ =>
  bnd2 (f_X1_franchisee E p0 p1 h) fun x4 h2 =>
  Sum.elim (fun x5 => (
    bnd2 (nA h2 3 (2 : Int32) (.inl fun _ => 0)) fun q7 h8 =>
    bnd2 (f_X1_inRange E (p2.toInt64) (0 : Int64) (999 : Int64) h8) fun x12 h10 =>
    (zgd .boolean x12).bind fun _ =>
    (sI h10 q7 3 (0 : Int32) x12).bind fun h14 =>
    bnd2 (f_X1_inRange E p3 (0 : Int64) (1000000000 : Int64) h14) fun x18 h16 =>
    (zgd .boolean x18).bind fun _ =>
    (sI h16 q7 3 (1 : Int32) x18).bind fun h20 =>
    bnd2 (f_X1_requireArguments E q7 h20) fun x24 h22 =>
    Sum.elim (fun x25 => (
      (cko h22 x5 10).bind fun _ =>
      bnd2 (f_X11_isActive E x5 h22) fun x30 h28 =>
      if x30 = 0 then (
        f_X1_requestTransfer_b76 E  h28
      ) else (
        (gR h28 x5 10 0).bind fun x32 =>
        (cko h28 x32 11).bind fun _ =>
        bnd2 (f_X12_isOpen E x32 h28) fun x37 h35 =>
        if x37 = 0 then (
          (gL h35 x5 10 8).bind fun x39 =>
          if (0 : Int64) < x39 then (
            f_X1_requestTransfer_b76 E  h35
          ) else (
            (gR h35 p0 0 0).bind fun x42 =>
            (gI h35 x42 2 8).bind fun x44 =>
            if x44 ≤ p2 then (
              (gR h35 x5 10 0).bind fun x47 =>
              (gR h35 p0 0 1).bind fun x49 =>
              (gI h35 x49 4 5).bind fun x51 =>
              (cko h35 x47 11).bind fun _ =>
              bnd2 (f_X12_request E x47 x51 p2 p3 h35) fun x56 h54 =>
              some (.inl (1 : Int32), h54)
            ) else (
              f_X1_requestTransfer_b76 E  h35
            )
          )
        ) else (
          f_X1_requestTransfer_b76 E  h35
        )
      )
    )) (fun q26 => (
      some (.inr q26, h22)
    )) x24
  )) (fun q6 => (
    some (.inr q6, h2)
  )) x4
theorem w_X1_requestTransfer_b0 (C0 : zCx p l e R s m args below meth c D B0 6 "FranchiseLedger" cX1_requestTransfer E 11 175 (Option.some Jvm.ClassFile.FieldType.boolean) "requestTransfer") (hno : ∀ x ∈ c.exceptionTable.toList, False) {r : (Int32 ⊕ (Nat × Nat))} {h' : zH} {p0 : Nat} {p1 : Int32} {p2 : Int32} {p3 : Int64} {h : zH} (hf : f_X1_requestTransfer_b0 E p0 p1 p2 p3 h = some (r, h')) : zW p l e R s m args below meth c D B0 6 (zEnd D B0 R below args s (zoT zoI r) h') h 0 [(0, .ref p0), (1, .int p1), (2, .int p2), (3, .long p3)] [] := by
  unfold f_X1_requestTransfer_b0 at hf
  refine zr_aload_n C0 dX1_requestTransfer_0 rfl 0 rfl ?_
  refine zr_iload_n C0 dX1_requestTransfer_1 rfl 1 rfl ?_
  obtain ⟨_, e1, hf⟩ := zbind hf
  obtain ⟨x4, h2, e3, hf⟩ := zbind2 hf
  rcases x4 with x5 | q6
  · have hf := zinl hf
    refine zr_callV_r C0 cv_X1_134_X1 rfl (zcko e1) (m_X1_franchisee C0.2.2.2.2.2.2.1 e3) (by decide) (by decide) rfl rfl (Nat.le_of_ble_eq_true rfl) dX1_requestTransfer_2 rfl ?_
    refine zr_astore (i := 5) (lv' := [(5, .ref x5), (0, .ref p0), (1, .int p1), (2, .int p2), (3, .long p3)]) C0 dX1_requestTransfer_5 (by decide) (by first | rfl | simp [zst1, zst2, zcat_rf]) ?_
    refine zr_iconst C0 (v := 2) dX1_requestTransfer_7 (by decide) ?_
    obtain ⟨q7, h8, e9, hf⟩ := zbind2 hf
    refine zr_newa C0 (atype := .boolean) (t := 3) q627 rfl (by decide) (fun _ => rfl) dX1_requestTransfer_8 e9 ?_
    refine zr_dup C0 dX1_requestTransfer_10 rfl ?_
    refine zr_iconst C0 (v := 0) dX1_requestTransfer_11 (by decide) ?_
    refine zr_iload_n C0 dX1_requestTransfer_12 rfl 3 rfl ?_
    refine zr_i2l C0 dX1_requestTransfer_13 ?_
    refine zr_lconst C0 (v := 0) dX1_requestTransfer_14 (by decide) ?_
    refine zr_ldc2 C0 (v := 999) q2371 dX1_requestTransfer_15 ?_
    obtain ⟨x12, h10, e11, hf⟩ := zbind2 hf
    refine zr_callS_r C0 cv_X1_84 (m_X1_inRange C0.2.2.2.2.2.2.1 e11) (by decide) (by decide) rfl rfl (Nat.le_of_ble_eq_true rfl) dX1_requestTransfer_18 rfl ?_
    obtain ⟨_, e13, hf⟩ := zbind hf
    obtain ⟨h14, e15, hf⟩ := zbind hf
    refine zr_zast C0 dX1_requestTransfer_21 (zgd_b e13) e15 ?_
    refine zr_dup C0 dX1_requestTransfer_22 rfl ?_
    refine zr_iconst C0 (v := 1) dX1_requestTransfer_23 (by decide) ?_
    refine zr_lload_n C0 dX1_requestTransfer_24 rfl 4 rfl ?_
    refine zr_lconst C0 (v := 0) dX1_requestTransfer_25 (by decide) ?_
    refine zr_ldc2 C0 (v := 1000000000) q1893 dX1_requestTransfer_26 ?_
    obtain ⟨x18, h16, e17, hf⟩ := zbind2 hf
    refine zr_callS_r C0 cv_X1_84 (m_X1_inRange C0.2.2.2.2.2.2.1 e17) (by decide) (by decide) rfl rfl (Nat.le_of_ble_eq_true rfl) dX1_requestTransfer_29 rfl ?_
    obtain ⟨_, e19, hf⟩ := zbind hf
    obtain ⟨h20, e21, hf⟩ := zbind hf
    refine zr_zast C0 dX1_requestTransfer_32 (zgd_b e19) e21 ?_
    obtain ⟨x24, h22, e23, hf⟩ := zbind2 hf
    rcases x24 with x25 | q26
    · have hf := zinl hf
      refine zr_callS_r C0 cv_X1_168 (m_X1_requireArguments C0.2.2.2.2.2.2.1 e23) (by decide) (by decide) rfl rfl (Nat.le_of_ble_eq_true rfl) dX1_requestTransfer_33 rfl ?_
      refine zr_aload C0 dX1_requestTransfer_36 0 rfl ?_
      obtain ⟨_, e27, hf⟩ := zbind hf
      obtain ⟨x30, h28, e29, hf⟩ := zbind2 hf
      refine zr_callV_r C0 cv_X1_208_X11 rfl (zcko e27) (m_X11_isActive C0.2.2.2.2.2.2.1 e29) (by decide) (by decide) rfl rfl (Nat.le_of_ble_eq_true rfl) dX1_requestTransfer_38 rfl ?_
      refine zr_if_eq C0 (tgt := 76) dX1_requestTransfer_41 (by decide) (fun c31 => ?_) (fun c31 => ?_)
      · have hf := zif_t c31 hf
        refine zr_sub [] rfl ?_
        exact w_X1_requestTransfer_b76 C0 hno hf
      · have hf := zif_f c31 hf
        refine zr_aload C0 dX1_requestTransfer_44 0 rfl ?_
        obtain ⟨x32, e33, hf⟩ := zbind hf
        refine zr_get C0 fl_X1_343_X11 dX1_requestTransfer_46 (zgR e33) ?_
        obtain ⟨_, e34, hf⟩ := zbind hf
        obtain ⟨x37, h35, e36, hf⟩ := zbind2 hf
        refine zr_callV_r C0 cv_X1_347_X12 rfl (zcko e34) (m_X12_isOpen C0.2.2.2.2.2.2.1 e36) (by decide) (by decide) rfl rfl (Nat.le_of_ble_eq_true rfl) dX1_requestTransfer_49 rfl ?_
        refine zr_if_ne C0 (tgt := 76) dX1_requestTransfer_52 (by decide) (fun c38 => ?_) (fun c38 => ?_)
        · have hf := zif_f c38 hf
          refine zr_sub [] rfl ?_
          exact w_X1_requestTransfer_b76 C0 hno hf
        · have hf := zif_t c38 hf
          refine zr_aload C0 dX1_requestTransfer_55 0 rfl ?_
          obtain ⟨x39, e40, hf⟩ := zbind hf
          refine zr_get C0 fl_X1_153_X11 dX1_requestTransfer_57 (zgL e40) ?_
          refine zr_lconst C0 (v := 0) dX1_requestTransfer_60 (by decide) ?_
          refine zr_lcmp C0 dX1_requestTransfer_61 ?_
          refine zr_if_gt C0 (tgt := 76) dX1_requestTransfer_62 (by decide) (fun c41 => ?_) (fun c41 => ?_)
          · have hf := zif_t (zl_gt.mp c41) hf
            refine zr_sub [] rfl ?_
            exact w_X1_requestTransfer_b76 C0 hno hf
          · have hf := zif_f (zl_gtn.mp c41) hf
            refine zr_iload_n C0 dX1_requestTransfer_65 rfl 3 rfl ?_
            refine zr_aload_n C0 dX1_requestTransfer_66 rfl 1 rfl ?_
            obtain ⟨x42, e43, hf⟩ := zbind hf
            refine zr_get C0 fl_X1_30_X1 dX1_requestTransfer_67 (zgR e43) ?_
            obtain ⟨x44, e45, hf⟩ := zbind hf
            refine zr_get C0 fl_X1_350_X2 dX1_requestTransfer_70 (zgI e45) ?_
            refine zr_icmp_ge C0 (tgt := 78) dX1_requestTransfer_73 (by decide) (fun c46 => ?_) (fun c46 => ?_)
            · have hf := zif_t c46 hf
              refine zr_aload C0 dX1_requestTransfer_78 0 rfl ?_
              obtain ⟨x47, e48, hf⟩ := zbind hf
              refine zr_get C0 fl_X1_343_X11 dX1_requestTransfer_80 (zgR e48) ?_
              refine zr_aload_n C0 dX1_requestTransfer_83 rfl 1 rfl ?_
              obtain ⟨x49, e50, hf⟩ := zbind hf
              refine zr_get C0 fl_X1_39_X1 dX1_requestTransfer_84 (zgR e50) ?_
              obtain ⟨x51, e52, hf⟩ := zbind hf
              refine zr_get C0 fl_X1_111_X4 dX1_requestTransfer_87 (zgI e52) ?_
              refine zr_iload_n C0 dX1_requestTransfer_90 rfl 3 rfl ?_
              refine zr_lload_n C0 dX1_requestTransfer_91 rfl 4 rfl ?_
              obtain ⟨_, e53, hf⟩ := zbind hf
              obtain ⟨x56, h54, e55, hf⟩ := zbind2 hf
              refine zr_callV_r C0 cv_X1_353_X12 rfl (zcko e53) (m_X12_request C0.2.2.2.2.2.2.1 e55) (by decide) (by decide) rfl rfl (Nat.le_of_ble_eq_true rfl) dX1_requestTransfer_92 rfl ?_
              refine zr_iconst C0 (v := 1) dX1_requestTransfer_95 (by decide) ?_
              refine zretW hf ?_
              exact zr_iret C0 (ty := .boolean) rfl (by decide) dX1_requestTransfer_96 rfl
            · have hf := zif_f c46 hf
              refine zr_sub [] rfl ?_
              exact w_X1_requestTransfer_b76 C0 hno hf
    · have hf := zinr hf
      refine zretW hf ?_
      exact zr_callS_t C0 cv_X1_168 (m_X1_requireArguments C0.2.2.2.2.2.2.1 e23) (by decide) (by decide) rfl rfl (Nat.le_of_ble_eq_true rfl) dX1_requestTransfer_33 (zr_out C0 hno rfl)
  · have hf := zinr hf
    refine zretW hf ?_
    exact zr_callV_t C0 cv_X1_134_X1 rfl (zcko e1) (m_X1_franchisee C0.2.2.2.2.2.2.1 e3) (by decide) (by decide) rfl rfl (Nat.le_of_ble_eq_true rfl) dX1_requestTransfer_2 (zr_out C0 hno rfl)
def f_X1_requestTransfer (E : zE) (p0 : Nat) (p1 : Int32) (p2 : Int32) (p3 : Int64) (h : zH) : Option ((Int32 ⊕ (Nat × Nat)) × zH) := f_X1_requestTransfer_b0 E p0 p1 p2 p3 h
theorem m_X1_requestTransfer {l : Launch} (hst : l.stackTraces = false) {D : zD} {B0 : Nat} {E : zE} {p0 : Nat} {p1 : Int32} {p2 : Int32} {p3 : Int64} {h h' : zH} {r : (Int32 ⊕ (Nat × Nat))} (hf : f_X1_requestTransfer E p0 p1 p2 p3 h = some (r, h')) : zMet l yX1_requestTransfer (ws_ yX1_requestTransfer cX1_requestTransfer 6 (Option.some Jvm.ClassFile.FieldType.boolean)) 11 175 D B0 E [.ref p0, .int p1, .int p2, .long p3] h (zoT zoI r) h' := by
  unfold f_X1_requestTransfer at hf
  refine zMet_of hst (by decide +kernel) rfl rfl (Nat.le_of_ble_eq_true rfl) (fun p e R s m below meth c C0 hno => ?_)
  show zW _ _ _ _ _ _ _ _ _ _ _ _ _ _ _ _ [(0, .ref p0), (1, .int p1), (2, .int p2), (3, .long p3)] []
  exact w_X1_requestTransfer_b0 C0 hno hf
def f_X1_exercise_b41 (E : zE) (h : zH) : Option ((Int32 ⊕ (Nat × Nat)) × zH) :=
  some (.inl (0 : Int32), h)
theorem w_X1_exercise_b41 (C0 : zCx p l e R s m args below meth c D B0 3 "FranchiseLedger" cX1_exercise E 11 175 (Option.some Jvm.ClassFile.FieldType.boolean) "exercise") (hno : ∀ x ∈ c.exceptionTable.toList, False) {r : (Int32 ⊕ (Nat × Nat))} {h' : zH} {h : zH} (hf : f_X1_exercise_b41 E  h = some (r, h')) : zW p l e R s m args below meth c D B0 3 (zEnd D B0 R below args s (zoT zoI r) h') h 41 [] [] := by
  unfold f_X1_exercise_b41 at hf
  refine zr_iconst C0 (v := 0) dX1_exercise_41 (by decide) ?_
  refine zretW hf ?_
  exact zr_iret C0 (ty := .boolean) rfl (by decide) dX1_exercise_42 rfl
def f_X1_exercise_b0 (E : zE) (p0 : Nat) (p1 : Int32) (h : zH) : Option ((Int32 ⊕ (Nat × Nat)) × zH) :=
  (cko h p0 0).bind fun _ =>
  bnd2 (f_X1_franchisee E p0 p1 h) fun x4 h2 =>
  Sum.elim (fun x5 => (
    (gR h2 x5 10 0).bind fun x7 =>
    (cko h2 x7 11).bind fun _ =>
    bnd2 (f_X12_isOpen E x7 h2) fun x12 h10 =>
    if x12 = 0 then (
      f_X1_exercise_b41 E  h10
    ) else (
      (gR h10 p0 0 1).bind fun x14 =>
      (gI h10 x14 4 5).bind fun x16 =>
      (gR h10 x5 10 0).bind fun x18 =>
      (gI h10 x18 11 1).bind fun x20 =>
      (gR h10 p0 0 0).bind fun x22 =>
      (gI h10 x22 2 7).bind fun x24 =>
      if (x16 - x20) < x24 then (
        (gR h10 x5 10 0).bind fun x27 =>
        (pF h10 x27 11 0 (.int (5 : Int32))).bind fun h29 =>
        (pF h29 x5 10 5 (.int (2 : Int32))).bind fun h31 =>
        (gL h31 x5 10 8).bind fun x33 =>
        (gR h31 x5 10 0).bind fun x35 =>
        (gL h31 x35 11 6).bind fun x37 =>
        (pF h31 x5 10 8 (.long (x33 - x37))).bind fun h39 =>
        some (.inl (1 : Int32), h39)
      ) else (
        f_X1_exercise_b41 E  h10
      )
    )
  )) (fun q6 => (
    some (.inr q6, h2)
  )) x4
theorem w_X1_exercise_b0 (C0 : zCx p l e R s m args below meth c D B0 3 "FranchiseLedger" cX1_exercise E 11 175 (Option.some Jvm.ClassFile.FieldType.boolean) "exercise") (hno : ∀ x ∈ c.exceptionTable.toList, False) {r : (Int32 ⊕ (Nat × Nat))} {h' : zH} {p0 : Nat} {p1 : Int32} {h : zH} (hf : f_X1_exercise_b0 E p0 p1 h = some (r, h')) : zW p l e R s m args below meth c D B0 3 (zEnd D B0 R below args s (zoT zoI r) h') h 0 [(0, .ref p0), (1, .int p1)] [] := by
  unfold f_X1_exercise_b0 at hf
  refine zr_aload_n C0 dX1_exercise_0 rfl 0 rfl ?_
  refine zr_iload_n C0 dX1_exercise_1 rfl 1 rfl ?_
  obtain ⟨_, e1, hf⟩ := zbind hf
  obtain ⟨x4, h2, e3, hf⟩ := zbind2 hf
  rcases x4 with x5 | q6
  · have hf := zinl hf
    refine zr_callV_r C0 cv_X1_134_X1 rfl (zcko e1) (m_X1_franchisee C0.2.2.2.2.2.2.1 e3) (by decide) (by decide) rfl rfl (Nat.le_of_ble_eq_true rfl) dX1_exercise_2 rfl ?_
    refine zr_astore_n (i := 2) (lv' := [(2, .ref x5), (0, .ref p0), (1, .int p1)]) C0 dX1_exercise_5 rfl (by decide) (by first | rfl | simp [zst1, zst2, zcat_rf]) ?_
    refine zr_aload_n C0 dX1_exercise_6 rfl 0 rfl ?_
    obtain ⟨x7, e8, hf⟩ := zbind hf
    refine zr_get C0 fl_X1_343_X11 dX1_exercise_7 (zgR e8) ?_
    obtain ⟨_, e9, hf⟩ := zbind hf
    obtain ⟨x12, h10, e11, hf⟩ := zbind2 hf
    refine zr_callV_r C0 cv_X1_347_X12 rfl (zcko e9) (m_X12_isOpen C0.2.2.2.2.2.2.1 e11) (by decide) (by decide) rfl rfl (Nat.le_of_ble_eq_true rfl) dX1_exercise_10 rfl ?_
    refine zr_if_eq C0 (tgt := 41) dX1_exercise_13 (by decide) (fun c13 => ?_) (fun c13 => ?_)
    · have hf := zif_t c13 hf
      refine zr_sub [] rfl ?_
      exact w_X1_exercise_b41 C0 hno hf
    · have hf := zif_f c13 hf
      refine zr_aload_n C0 dX1_exercise_16 rfl 1 rfl ?_
      obtain ⟨x14, e15, hf⟩ := zbind hf
      refine zr_get C0 fl_X1_39_X1 dX1_exercise_17 (zgR e15) ?_
      obtain ⟨x16, e17, hf⟩ := zbind hf
      refine zr_get C0 fl_X1_111_X4 dX1_exercise_20 (zgI e17) ?_
      refine zr_aload_n C0 dX1_exercise_23 rfl 0 rfl ?_
      obtain ⟨x18, e19, hf⟩ := zbind hf
      refine zr_get C0 fl_X1_343_X11 dX1_exercise_24 (zgR e19) ?_
      obtain ⟨x20, e21, hf⟩ := zbind hf
      refine zr_get C0 fl_X1_369_X12 dX1_exercise_27 (zgI e21) ?_
      refine zr_isub C0 dX1_exercise_30 ?_
      refine zr_aload_n C0 dX1_exercise_31 rfl 1 rfl ?_
      obtain ⟨x22, e23, hf⟩ := zbind hf
      refine zr_get C0 fl_X1_30_X1 dX1_exercise_32 (zgR e23) ?_
      obtain ⟨x24, e25, hf⟩ := zbind hf
      refine zr_get C0 fl_X1_370_X2 dX1_exercise_35 (zgI e25) ?_
      refine zr_icmp_lt C0 (tgt := 43) dX1_exercise_38 (by decide) (fun c26 => ?_) (fun c26 => ?_)
      · have hf := zif_t c26 hf
        refine zr_aload_n C0 dX1_exercise_43 rfl 0 rfl ?_
        obtain ⟨x27, e28, hf⟩ := zbind hf
        refine zr_get C0 fl_X1_343_X11 dX1_exercise_44 (zgR e28) ?_
        refine zr_iconst C0 (v := 5) dX1_exercise_47 (by decide) ?_
        obtain ⟨h29, e30, hf⟩ := zbind hf
        refine zr_put C0 pl_X1_359_X12 dX1_exercise_48 (fun h => by cases h) rfl rfl e30 ?_
        refine zr_aload_n C0 dX1_exercise_51 rfl 0 rfl ?_
        refine zr_iconst C0 (v := 2) dX1_exercise_52 (by decide) ?_
        obtain ⟨h31, e32, hf⟩ := zbind hf
        refine zr_put C0 pl_X1_141_X11 dX1_exercise_53 (fun h => by cases h) rfl rfl e32 ?_
        refine zr_aload_n C0 dX1_exercise_56 rfl 0 rfl ?_
        refine zr_dup C0 dX1_exercise_57 rfl ?_
        obtain ⟨x33, e34, hf⟩ := zbind hf
        refine zr_get C0 fl_X1_153_X11 dX1_exercise_58 (zgL e34) ?_
        refine zr_aload_n C0 dX1_exercise_61 rfl 0 rfl ?_
        obtain ⟨x35, e36, hf⟩ := zbind hf
        refine zr_get C0 fl_X1_343_X11 dX1_exercise_62 (zgR e36) ?_
        obtain ⟨x37, e38, hf⟩ := zbind hf
        refine zr_get C0 fl_X1_373_X12 dX1_exercise_65 (zgL e38) ?_
        refine zr_lsub C0 dX1_exercise_68 ?_
        obtain ⟨h39, e40, hf⟩ := zbind hf
        refine zr_put C0 pl_X1_153_X11 dX1_exercise_69 (fun h => by cases h) rfl rfl e40 ?_
        refine zr_iconst C0 (v := 1) dX1_exercise_72 (by decide) ?_
        refine zretW hf ?_
        exact zr_iret C0 (ty := .boolean) rfl (by decide) dX1_exercise_73 rfl
      · have hf := zif_f c26 hf
        refine zr_sub [] rfl ?_
        exact w_X1_exercise_b41 C0 hno hf
  · have hf := zinr hf
    refine zretW hf ?_
    exact zr_callV_t C0 cv_X1_134_X1 rfl (zcko e1) (m_X1_franchisee C0.2.2.2.2.2.2.1 e3) (by decide) (by decide) rfl rfl (Nat.le_of_ble_eq_true rfl) dX1_exercise_2 (zr_out C0 hno rfl)
def f_X1_exercise (E : zE) (p0 : Nat) (p1 : Int32) (h : zH) : Option ((Int32 ⊕ (Nat × Nat)) × zH) := f_X1_exercise_b0 E p0 p1 h
theorem m_X1_exercise {l : Launch} (hst : l.stackTraces = false) {D : zD} {B0 : Nat} {E : zE} {p0 : Nat} {p1 : Int32} {h h' : zH} {r : (Int32 ⊕ (Nat × Nat))} (hf : f_X1_exercise E p0 p1 h = some (r, h')) : zMet l yX1_exercise (ws_ yX1_exercise cX1_exercise 3 (Option.some Jvm.ClassFile.FieldType.boolean)) 11 175 D B0 E [.ref p0, .int p1] h (zoT zoI r) h' := by
  unfold f_X1_exercise at hf
  refine zMet_of hst (by decide +kernel) rfl rfl (Nat.le_of_ble_eq_true rfl) (fun p e R s m below meth c C0 hno => ?_)
  show zW _ _ _ _ _ _ _ _ _ _ _ _ _ _ _ _ [(0, .ref p0), (1, .int p1)] []
  exact w_X1_exercise_b0 C0 hno hf
def f_X1_withdraw_b0 (E : zE) (p0 : Nat) (p1 : Int32) (h : zH) : Option ((Int32 ⊕ (Nat × Nat)) × zH) :=
  (cko h p0 0).bind fun _ =>
  bnd2 (f_X1_franchisee E p0 p1 h) fun x4 h2 =>
  Sum.elim (fun x5 => (
    (gR h2 x5 10 0).bind fun x7 =>
    (cko h2 x7 11).bind fun _ =>
    bnd2 (f_X12_isOpen E x7 h2) fun x12 h10 =>
    if x12 = 0 then (
      some (.inl (0 : Int32), h10)
    ) else (
      (gR h10 x5 10 0).bind fun x14 =>
      (pF h10 x14 11 0 (.int (0 : Int32))).bind fun h16 =>
      some (.inl (1 : Int32), h16)
    )
  )) (fun q6 => (
    some (.inr q6, h2)
  )) x4
theorem w_X1_withdraw_b0 (C0 : zCx p l e R s m args below meth c D B0 3 "FranchiseLedger" cX1_withdraw E 11 175 (Option.some Jvm.ClassFile.FieldType.boolean) "withdraw") (hno : ∀ x ∈ c.exceptionTable.toList, False) {r : (Int32 ⊕ (Nat × Nat))} {h' : zH} {p0 : Nat} {p1 : Int32} {h : zH} (hf : f_X1_withdraw_b0 E p0 p1 h = some (r, h')) : zW p l e R s m args below meth c D B0 3 (zEnd D B0 R below args s (zoT zoI r) h') h 0 [(0, .ref p0), (1, .int p1)] [] := by
  unfold f_X1_withdraw_b0 at hf
  refine zr_aload_n C0 dX1_withdraw_0 rfl 0 rfl ?_
  refine zr_iload_n C0 dX1_withdraw_1 rfl 1 rfl ?_
  obtain ⟨_, e1, hf⟩ := zbind hf
  obtain ⟨x4, h2, e3, hf⟩ := zbind2 hf
  rcases x4 with x5 | q6
  · have hf := zinl hf
    refine zr_callV_r C0 cv_X1_134_X1 rfl (zcko e1) (m_X1_franchisee C0.2.2.2.2.2.2.1 e3) (by decide) (by decide) rfl rfl (Nat.le_of_ble_eq_true rfl) dX1_withdraw_2 rfl ?_
    refine zr_astore_n (i := 2) (lv' := [(2, .ref x5), (0, .ref p0), (1, .int p1)]) C0 dX1_withdraw_5 rfl (by decide) (by first | rfl | simp [zst1, zst2, zcat_rf]) ?_
    refine zr_aload_n C0 dX1_withdraw_6 rfl 0 rfl ?_
    obtain ⟨x7, e8, hf⟩ := zbind hf
    refine zr_get C0 fl_X1_343_X11 dX1_withdraw_7 (zgR e8) ?_
    obtain ⟨_, e9, hf⟩ := zbind hf
    obtain ⟨x12, h10, e11, hf⟩ := zbind2 hf
    refine zr_callV_r C0 cv_X1_347_X12 rfl (zcko e9) (m_X12_isOpen C0.2.2.2.2.2.2.1 e11) (by decide) (by decide) rfl rfl (Nat.le_of_ble_eq_true rfl) dX1_withdraw_10 rfl ?_
    refine zr_if_ne C0 (tgt := 18) dX1_withdraw_13 (by decide) (fun c13 => ?_) (fun c13 => ?_)
    · have hf := zif_f c13 hf
      refine zr_aload_n C0 dX1_withdraw_18 rfl 0 rfl ?_
      obtain ⟨x14, e15, hf⟩ := zbind hf
      refine zr_get C0 fl_X1_343_X11 dX1_withdraw_19 (zgR e15) ?_
      refine zr_iconst C0 (v := 0) dX1_withdraw_22 (by decide) ?_
      obtain ⟨h16, e17, hf⟩ := zbind hf
      refine zr_put C0 pl_X1_359_X12 dX1_withdraw_23 (fun h => by cases h) rfl rfl e17 ?_
      refine zr_iconst C0 (v := 1) dX1_withdraw_26 (by decide) ?_
      refine zretW hf ?_
      exact zr_iret C0 (ty := .boolean) rfl (by decide) dX1_withdraw_27 rfl
    · have hf := zif_t c13 hf
      refine zr_iconst C0 (v := 0) dX1_withdraw_16 (by decide) ?_
      refine zretW hf ?_
      exact zr_iret C0 (ty := .boolean) rfl (by decide) dX1_withdraw_17 rfl
  · have hf := zinr hf
    refine zretW hf ?_
    exact zr_callV_t C0 cv_X1_134_X1 rfl (zcko e1) (m_X1_franchisee C0.2.2.2.2.2.2.1 e3) (by decide) (by decide) rfl rfl (Nat.le_of_ble_eq_true rfl) dX1_withdraw_2 (zr_out C0 hno rfl)
def f_X1_withdraw (E : zE) (p0 : Nat) (p1 : Int32) (h : zH) : Option ((Int32 ⊕ (Nat × Nat)) × zH) := f_X1_withdraw_b0 E p0 p1 h
theorem m_X1_withdraw {l : Launch} (hst : l.stackTraces = false) {D : zD} {B0 : Nat} {E : zE} {p0 : Nat} {p1 : Int32} {h h' : zH} {r : (Int32 ⊕ (Nat × Nat))} (hf : f_X1_withdraw E p0 p1 h = some (r, h')) : zMet l yX1_withdraw (ws_ yX1_withdraw cX1_withdraw 3 (Option.some Jvm.ClassFile.FieldType.boolean)) 11 175 D B0 E [.ref p0, .int p1] h (zoT zoI r) h' := by
  unfold f_X1_withdraw at hf
  refine zMet_of hst (by decide +kernel) rfl rfl (Nat.le_of_ble_eq_true rfl) (fun p e R s m below meth c C0 hno => ?_)
  show zW _ _ _ _ _ _ _ _ _ _ _ _ _ _ _ _ [(0, .ref p0), (1, .int p1)] []
  exact w_X1_withdraw_b0 C0 hno hf
def f_X1_transferState_b0 (E : zE) (p0 : Nat) (p1 : Int32) (h : zH) : Option ((Int32 ⊕ (Nat × Nat)) × zH) :=
  (cko h p0 0).bind fun _ =>
  bnd2 (f_X1_franchisee E p0 p1 h) fun x4 h2 =>
  Sum.elim (fun x5 => (
    (gR h2 x5 10 0).bind fun x7 =>
    (gI h2 x7 11 0).bind fun x9 =>
    some (.inl x9, h2)
  )) (fun q6 => (
    some (.inr q6, h2)
  )) x4
theorem w_X1_transferState_b0 (C0 : zCx p l e R s m args below meth c D B0 2 "FranchiseLedger" cX1_transferState E 11 175 (Option.some Jvm.ClassFile.FieldType.int) "transferState") (hno : ∀ x ∈ c.exceptionTable.toList, False) {r : (Int32 ⊕ (Nat × Nat))} {h' : zH} {p0 : Nat} {p1 : Int32} {h : zH} (hf : f_X1_transferState_b0 E p0 p1 h = some (r, h')) : zW p l e R s m args below meth c D B0 2 (zEnd D B0 R below args s (zoT zoI r) h') h 0 [(0, .ref p0), (1, .int p1)] [] := by
  unfold f_X1_transferState_b0 at hf
  refine zr_aload_n C0 dX1_transferState_0 rfl 0 rfl ?_
  refine zr_iload_n C0 dX1_transferState_1 rfl 1 rfl ?_
  obtain ⟨_, e1, hf⟩ := zbind hf
  obtain ⟨x4, h2, e3, hf⟩ := zbind2 hf
  rcases x4 with x5 | q6
  · have hf := zinl hf
    refine zr_callV_r C0 cv_X1_134_X1 rfl (zcko e1) (m_X1_franchisee C0.2.2.2.2.2.2.1 e3) (by decide) (by decide) rfl rfl (Nat.le_of_ble_eq_true rfl) dX1_transferState_2 rfl ?_
    obtain ⟨x7, e8, hf⟩ := zbind hf
    refine zr_get C0 fl_X1_343_X11 dX1_transferState_5 (zgR e8) ?_
    obtain ⟨x9, e10, hf⟩ := zbind hf
    refine zr_get C0 fl_X1_359_X12 dX1_transferState_8 (zgI e10) ?_
    refine zretW hf ?_
    exact zr_iret C0 (ty := .int) rfl rfl dX1_transferState_11 rfl
  · have hf := zinr hf
    refine zretW hf ?_
    exact zr_callV_t C0 cv_X1_134_X1 rfl (zcko e1) (m_X1_franchisee C0.2.2.2.2.2.2.1 e3) (by decide) (by decide) rfl rfl (Nat.le_of_ble_eq_true rfl) dX1_transferState_2 (zr_out C0 hno rfl)
def f_X1_transferState (E : zE) (p0 : Nat) (p1 : Int32) (h : zH) : Option ((Int32 ⊕ (Nat × Nat)) × zH) := f_X1_transferState_b0 E p0 p1 h
theorem m_X1_transferState {l : Launch} (hst : l.stackTraces = false) {D : zD} {B0 : Nat} {E : zE} {p0 : Nat} {p1 : Int32} {h h' : zH} {r : (Int32 ⊕ (Nat × Nat))} (hf : f_X1_transferState E p0 p1 h = some (r, h')) : zMet l yX1_transferState (ws_ yX1_transferState cX1_transferState 2 (Option.some Jvm.ClassFile.FieldType.int)) 11 175 D B0 E [.ref p0, .int p1] h (zoT zoI r) h' := by
  unfold f_X1_transferState at hf
  refine zMet_of hst (by decide +kernel) rfl rfl (Nat.le_of_ble_eq_true rfl) (fun p e R s m below meth c C0 hno => ?_)
  show zW _ _ _ _ _ _ _ _ _ _ _ _ _ _ _ _ [(0, .ref p0), (1, .int p1)] []
  exact w_X1_transferState_b0 C0 hno hf
def f_X1_transferWait_b44 (E : zE) (s0 : Int32) (h : zH) : Option ((Int32 ⊕ (Nat × Nat)) × zH) :=
  some (.inl s0, h)
theorem w_X1_transferWait_b44 (C0 : zCx p l e R s m args below meth c D B0 3 "FranchiseLedger" cX1_transferWait E 11 175 (Option.some Jvm.ClassFile.FieldType.int) "transferWait") (hno : ∀ x ∈ c.exceptionTable.toList, False) {r : (Int32 ⊕ (Nat × Nat))} {h' : zH} {s0 : Int32} {h : zH} (hf : f_X1_transferWait_b44 E s0 h = some (r, h')) : zW p l e R s m args below meth c D B0 3 (zEnd D B0 R below args s (zoT zoI r) h') h 44 [] [.int s0] := by
  unfold f_X1_transferWait_b44 at hf
  refine zretW hf ?_
  exact zr_iret C0 (ty := .int) rfl rfl dX1_transferWait_44 rfl
def f_X1_transferWait_b0 (E : zE) (p0 : Nat) (p1 : Int32) (h : zH) : Option ((Int32 ⊕ (Nat × Nat)) × zH) :=
  (cko h p0 0).bind fun _ =>
  bnd2 (f_X1_franchisee E p0 p1 h) fun x4 h2 =>
  Sum.elim (fun x5 => (
    (gR h2 x5 10 0).bind fun x7 =>
    (cko h2 x7 11).bind fun _ =>
    bnd2 (f_X12_isOpen E x7 h2) fun x12 h10 =>
    if x12 = 0 then (
      f_X1_transferWait_b44 E (-1 : Int32) h10
    ) else (
      (gR h10 p0 0 0).bind fun x14 =>
      (gI h10 x14 2 7).bind fun x16 =>
      (gR h10 p0 0 1).bind fun x18 =>
      (gI h10 x18 4 5).bind fun x20 =>
      (gI h10 x7 11 1).bind fun x22 =>
      bnd2 (f_J12_max E (0 : Int32) (x16 - (x20 - x22)) h10) fun x26 h24 =>
      f_X1_transferWait_b44 E x26 h24
    )
  )) (fun q6 => (
    some (.inr q6, h2)
  )) x4
theorem w_X1_transferWait_b0 (C0 : zCx p l e R s m args below meth c D B0 3 "FranchiseLedger" cX1_transferWait E 11 175 (Option.some Jvm.ClassFile.FieldType.int) "transferWait") (hno : ∀ x ∈ c.exceptionTable.toList, False) {r : (Int32 ⊕ (Nat × Nat))} {h' : zH} {p0 : Nat} {p1 : Int32} {h : zH} (hf : f_X1_transferWait_b0 E p0 p1 h = some (r, h')) : zW p l e R s m args below meth c D B0 3 (zEnd D B0 R below args s (zoT zoI r) h') h 0 [(0, .ref p0), (1, .int p1)] [] := by
  unfold f_X1_transferWait_b0 at hf
  refine zr_aload_n C0 dX1_transferWait_0 rfl 0 rfl ?_
  refine zr_iload_n C0 dX1_transferWait_1 rfl 1 rfl ?_
  obtain ⟨_, e1, hf⟩ := zbind hf
  obtain ⟨x4, h2, e3, hf⟩ := zbind2 hf
  rcases x4 with x5 | q6
  · have hf := zinl hf
    refine zr_callV_r C0 cv_X1_134_X1 rfl (zcko e1) (m_X1_franchisee C0.2.2.2.2.2.2.1 e3) (by decide) (by decide) rfl rfl (Nat.le_of_ble_eq_true rfl) dX1_transferWait_2 rfl ?_
    obtain ⟨x7, e8, hf⟩ := zbind hf
    refine zr_get C0 fl_X1_343_X11 dX1_transferWait_5 (zgR e8) ?_
    refine zr_astore_n (i := 2) (lv' := [(2, .ref x7), (0, .ref p0), (1, .int p1)]) C0 dX1_transferWait_8 rfl (by decide) (by first | rfl | simp [zst1, zst2, zcat_rf]) ?_
    refine zr_aload_n C0 dX1_transferWait_9 rfl 0 rfl ?_
    obtain ⟨_, e9, hf⟩ := zbind hf
    obtain ⟨x12, h10, e11, hf⟩ := zbind2 hf
    refine zr_callV_r C0 cv_X1_347_X12 rfl (zcko e9) (m_X12_isOpen C0.2.2.2.2.2.2.1 e11) (by decide) (by decide) rfl rfl (Nat.le_of_ble_eq_true rfl) dX1_transferWait_10 rfl ?_
    refine zr_if_eq C0 (tgt := 43) dX1_transferWait_13 (by decide) (fun c13 => ?_) (fun c13 => ?_)
    · have hf := zif_t c13 hf
      refine zr_iconst C0 (v := -1) dX1_transferWait_43 (by decide) ?_
      refine zr_sub [] rfl ?_
      exact w_X1_transferWait_b44 C0 hno hf
    · have hf := zif_f c13 hf
      refine zr_iconst C0 (v := 0) dX1_transferWait_16 (by decide) ?_
      refine zr_aload_n C0 dX1_transferWait_17 rfl 1 rfl ?_
      obtain ⟨x14, e15, hf⟩ := zbind hf
      refine zr_get C0 fl_X1_30_X1 dX1_transferWait_18 (zgR e15) ?_
      obtain ⟨x16, e17, hf⟩ := zbind hf
      refine zr_get C0 fl_X1_370_X2 dX1_transferWait_21 (zgI e17) ?_
      refine zr_aload_n C0 dX1_transferWait_24 rfl 1 rfl ?_
      obtain ⟨x18, e19, hf⟩ := zbind hf
      refine zr_get C0 fl_X1_39_X1 dX1_transferWait_25 (zgR e19) ?_
      obtain ⟨x20, e21, hf⟩ := zbind hf
      refine zr_get C0 fl_X1_111_X4 dX1_transferWait_28 (zgI e21) ?_
      refine zr_aload_n C0 dX1_transferWait_31 rfl 0 rfl ?_
      obtain ⟨x22, e23, hf⟩ := zbind hf
      refine zr_get C0 fl_X1_369_X12 dX1_transferWait_32 (zgI e23) ?_
      refine zr_isub C0 dX1_transferWait_35 ?_
      refine zr_isub C0 dX1_transferWait_36 ?_
      obtain ⟨x26, h24, e25, hf⟩ := zbind2 hf
      refine zr_callS_r C0 cv_X1_376 (m_J12_max C0.2.2.2.2.2.2.1 e25) (by decide) (by decide) rfl rfl (Nat.le_of_ble_eq_true rfl) dX1_transferWait_37 rfl ?_
      refine zr_goto C0 (tgt := 44) dX1_transferWait_40 (by decide) ?_
      refine zr_sub [] rfl ?_
      exact w_X1_transferWait_b44 C0 hno hf
  · have hf := zinr hf
    refine zretW hf ?_
    exact zr_callV_t C0 cv_X1_134_X1 rfl (zcko e1) (m_X1_franchisee C0.2.2.2.2.2.2.1 e3) (by decide) (by decide) rfl rfl (Nat.le_of_ble_eq_true rfl) dX1_transferWait_2 (zr_out C0 hno rfl)
def f_X1_transferWait (E : zE) (p0 : Nat) (p1 : Int32) (h : zH) : Option ((Int32 ⊕ (Nat × Nat)) × zH) := f_X1_transferWait_b0 E p0 p1 h
theorem m_X1_transferWait {l : Launch} (hst : l.stackTraces = false) {D : zD} {B0 : Nat} {E : zE} {p0 : Nat} {p1 : Int32} {h h' : zH} {r : (Int32 ⊕ (Nat × Nat))} (hf : f_X1_transferWait E p0 p1 h = some (r, h')) : zMet l yX1_transferWait (ws_ yX1_transferWait cX1_transferWait 3 (Option.some Jvm.ClassFile.FieldType.int)) 11 175 D B0 E [.ref p0, .int p1] h (zoT zoI r) h' := by
  unfold f_X1_transferWait at hf
  refine zMet_of hst (by decide +kernel) rfl rfl (Nat.le_of_ble_eq_true rfl) (fun p e R s m below meth c C0 hno => ?_)
  show zW _ _ _ _ _ _ _ _ _ _ _ _ _ _ _ _ [(0, .ref p0), (1, .int p1)] []
  exact w_X1_transferWait_b0 C0 hno hf
def f_X1_generation_b0 (E : zE) (p0 : Nat) (p1 : Int32) (h : zH) : Option ((Int32 ⊕ (Nat × Nat)) × zH) :=
  (cko h p0 0).bind fun _ =>
  bnd2 (f_X1_franchisee E p0 p1 h) fun x4 h2 =>
  Sum.elim (fun x5 => (
    (gI h2 x5 10 6).bind fun x7 =>
    some (.inl x7, h2)
  )) (fun q6 => (
    some (.inr q6, h2)
  )) x4
theorem w_X1_generation_b0 (C0 : zCx p l e R s m args below meth c D B0 2 "FranchiseLedger" cX1_generation E 11 175 (Option.some Jvm.ClassFile.FieldType.int) "generation") (hno : ∀ x ∈ c.exceptionTable.toList, False) {r : (Int32 ⊕ (Nat × Nat))} {h' : zH} {p0 : Nat} {p1 : Int32} {h : zH} (hf : f_X1_generation_b0 E p0 p1 h = some (r, h')) : zW p l e R s m args below meth c D B0 2 (zEnd D B0 R below args s (zoT zoI r) h') h 0 [(0, .ref p0), (1, .int p1)] [] := by
  unfold f_X1_generation_b0 at hf
  refine zr_aload_n C0 dX1_generation_0 rfl 0 rfl ?_
  refine zr_iload_n C0 dX1_generation_1 rfl 1 rfl ?_
  obtain ⟨_, e1, hf⟩ := zbind hf
  obtain ⟨x4, h2, e3, hf⟩ := zbind2 hf
  rcases x4 with x5 | q6
  · have hf := zinl hf
    refine zr_callV_r C0 cv_X1_134_X1 rfl (zcko e1) (m_X1_franchisee C0.2.2.2.2.2.2.1 e3) (by decide) (by decide) rfl rfl (Nat.le_of_ble_eq_true rfl) dX1_generation_2 rfl ?_
    obtain ⟨x7, e8, hf⟩ := zbind hf
    refine zr_get C0 fl_X1_144_X11 dX1_generation_5 (zgI e8) ?_
    refine zretW hf ?_
    exact zr_iret C0 (ty := .int) rfl rfl dX1_generation_8 rfl
  · have hf := zinr hf
    refine zretW hf ?_
    exact zr_callV_t C0 cv_X1_134_X1 rfl (zcko e1) (m_X1_franchisee C0.2.2.2.2.2.2.1 e3) (by decide) (by decide) rfl rfl (Nat.le_of_ble_eq_true rfl) dX1_generation_2 (zr_out C0 hno rfl)
def f_X1_generation (E : zE) (p0 : Nat) (p1 : Int32) (h : zH) : Option ((Int32 ⊕ (Nat × Nat)) × zH) := f_X1_generation_b0 E p0 p1 h
theorem m_X1_generation {l : Launch} (hst : l.stackTraces = false) {D : zD} {B0 : Nat} {E : zE} {p0 : Nat} {p1 : Int32} {h h' : zH} {r : (Int32 ⊕ (Nat × Nat))} (hf : f_X1_generation E p0 p1 h = some (r, h')) : zMet l yX1_generation (ws_ yX1_generation cX1_generation 2 (Option.some Jvm.ClassFile.FieldType.int)) 11 175 D B0 E [.ref p0, .int p1] h (zoT zoI r) h' := by
  unfold f_X1_generation at hf
  refine zMet_of hst (by decide +kernel) rfl rfl (Nat.le_of_ble_eq_true rfl) (fun p e R s m below meth c C0 hno => ?_)
  show zW _ _ _ _ _ _ _ _ _ _ _ _ _ _ _ _ [(0, .ref p0), (1, .int p1)] []
  exact w_X1_generation_b0 C0 hno hf
def f_X1_worth_b0 (E : zE) (p0 : Nat) (p1 : Int32) (h : zH) : Option ((Int32 ⊕ (Nat × Nat)) × zH) :=
  (cko h p0 0).bind fun _ =>
  bnd2 (f_X1_franchisee E p0 p1 h) fun x4 h2 =>
  Sum.elim (fun x5 => (
    (gI h2 x5 10 4).bind fun x7 =>
    some (.inl x7, h2)
  )) (fun q6 => (
    some (.inr q6, h2)
  )) x4
theorem w_X1_worth_b0 (C0 : zCx p l e R s m args below meth c D B0 2 "FranchiseLedger" cX1_worth E 11 175 (Option.some Jvm.ClassFile.FieldType.int) "worth") (hno : ∀ x ∈ c.exceptionTable.toList, False) {r : (Int32 ⊕ (Nat × Nat))} {h' : zH} {p0 : Nat} {p1 : Int32} {h : zH} (hf : f_X1_worth_b0 E p0 p1 h = some (r, h')) : zW p l e R s m args below meth c D B0 2 (zEnd D B0 R below args s (zoT zoI r) h') h 0 [(0, .ref p0), (1, .int p1)] [] := by
  unfold f_X1_worth_b0 at hf
  refine zr_aload_n C0 dX1_worth_0 rfl 0 rfl ?_
  refine zr_iload_n C0 dX1_worth_1 rfl 1 rfl ?_
  obtain ⟨_, e1, hf⟩ := zbind hf
  obtain ⟨x4, h2, e3, hf⟩ := zbind2 hf
  rcases x4 with x5 | q6
  · have hf := zinl hf
    refine zr_callV_r C0 cv_X1_134_X1 rfl (zcko e1) (m_X1_franchisee C0.2.2.2.2.2.2.1 e3) (by decide) (by decide) rfl rfl (Nat.le_of_ble_eq_true rfl) dX1_worth_2 rfl ?_
    obtain ⟨x7, e8, hf⟩ := zbind hf
    refine zr_get C0 fl_X1_147_X11 dX1_worth_5 (zgI e8) ?_
    refine zretW hf ?_
    exact zr_iret C0 (ty := .int) rfl rfl dX1_worth_8 rfl
  · have hf := zinr hf
    refine zretW hf ?_
    exact zr_callV_t C0 cv_X1_134_X1 rfl (zcko e1) (m_X1_franchisee C0.2.2.2.2.2.2.1 e3) (by decide) (by decide) rfl rfl (Nat.le_of_ble_eq_true rfl) dX1_worth_2 (zr_out C0 hno rfl)
def f_X1_worth (E : zE) (p0 : Nat) (p1 : Int32) (h : zH) : Option ((Int32 ⊕ (Nat × Nat)) × zH) := f_X1_worth_b0 E p0 p1 h
theorem m_X1_worth {l : Launch} (hst : l.stackTraces = false) {D : zD} {B0 : Nat} {E : zE} {p0 : Nat} {p1 : Int32} {h h' : zH} {r : (Int32 ⊕ (Nat × Nat))} (hf : f_X1_worth E p0 p1 h = some (r, h')) : zMet l yX1_worth (ws_ yX1_worth cX1_worth 2 (Option.some Jvm.ClassFile.FieldType.int)) 11 175 D B0 E [.ref p0, .int p1] h (zoT zoI r) h' := by
  unfold f_X1_worth at hf
  refine zMet_of hst (by decide +kernel) rfl rfl (Nat.le_of_ble_eq_true rfl) (fun p e R s m below meth c C0 hno => ?_)
  show zW _ _ _ _ _ _ _ _ _ _ _ _ _ _ _ _ [(0, .ref p0), (1, .int p1)] []
  exact w_X1_worth_b0 C0 hno hf
def f_J13_rangeCheck_b0 (E : zE) (p0 : Int32) (p1 : Int32) (p2 : Int32) (h : zH) : Option (Unit × zH) :=
  if p1 ≤ p2 then (
    if 0 ≤ p1 then (
      if p2 ≤ p0 then (
        some ((), h)
      ) else (
        none
      )
    ) else (
      none
    )
  ) else (
    none
  )
theorem w_J13_rangeCheck_b0 (C0 : zCx p l e R s m args below meth c D B0 3 "java/util/Arrays" cJ13_rangeCheck E 1 60 (Option.none : Option Jvm.ClassFile.FieldType) "rangeCheck") {r : Unit} {h' : zH} {p0 : Int32} {p1 : Int32} {p2 : Int32} {h : zH} (hf : f_J13_rangeCheck_b0 E p0 p1 p2 h = some (r, h')) : zW p l e R s m args below meth c D B0 3 (zEnd D B0 R below args s (zoV r) h') h 0 [(0, .int p0), (1, .int p1), (2, .int p2)] [] := by
  unfold f_J13_rangeCheck_b0 at hf
  refine zr_iload_n C0 dJ13_rangeCheck_0 rfl 1 rfl ?_
  refine zr_iload_n C0 dJ13_rangeCheck_1 rfl 2 rfl ?_
  refine zr_icmp_le C0 (tgt := 46) dJ13_rangeCheck_2 (by decide) (fun c1 => ?_) (fun c1 => ?_)
  · have hf := zif_t c1 hf
    refine zr_iload_n C0 dJ13_rangeCheck_46 rfl 1 rfl ?_
    refine zr_if_ge C0 (tgt := 59) dJ13_rangeCheck_47 (by decide) (fun c2 => ?_) (fun c2 => ?_)
    · have hf := zif_t c2 hf
      refine zr_iload_n C0 dJ13_rangeCheck_59 rfl 2 rfl ?_
      refine zr_iload_n C0 dJ13_rangeCheck_60 rfl 0 rfl ?_
      refine zr_icmp_le C0 (tgt := 73) dJ13_rangeCheck_61 (by decide) (fun c3 => ?_) (fun c3 => ?_)
      · have hf := zif_t c3 hf
        refine zretW hf ?_
        exact zr_vret C0 rfl dJ13_rangeCheck_73 rfl
      · have hf := zif_f c3 hf
        cases hf
    · have hf := zif_f c2 hf
      cases hf
  · have hf := zif_f c1 hf
    cases hf
def f_J13_rangeCheck (E : zE) (p0 : Int32) (p1 : Int32) (p2 : Int32) (h : zH) : Option (Unit × zH) := f_J13_rangeCheck_b0 E p0 p1 p2 h
theorem m_J13_rangeCheck {l : Launch} (hst : l.stackTraces = false) {D : zD} {B0 : Nat} {E : zE} {p0 : Int32} {p1 : Int32} {p2 : Int32} {h h' : zH} {r : Unit} (hf : f_J13_rangeCheck E p0 p1 p2 h = some (r, h')) : zMet l yJ13_rangeCheck (ws_ yJ13_rangeCheck cJ13_rangeCheck 3 (Option.none : Option Jvm.ClassFile.FieldType)) 1 60 D B0 E [.int p0, .int p1, .int p2] h (zoV r) h' := by
  unfold f_J13_rangeCheck at hf
  refine zMet_of hst (by decide +kernel) rfl rfl (Nat.le_of_ble_eq_true rfl) (fun p e R s m below meth c C0 hno => ?_)
  show zW _ _ _ _ _ _ _ _ _ _ _ _ _ _ _ _ [(0, .int p0), (1, .int p1), (2, .int p2)] []
  exact w_J13_rangeCheck_b0 C0 hf
def f_J13_fill_l10 (E : zE) : Nat → Nat → Int32 → Int32 → Int32 → zH → Option (Unit × zH)
  | 0, _, _, _, _, _ => none
  | n + 1, p0, p2, p3, p4, h =>
    if p2 ≤ p4 then (
      some ((), h)
    ) else (
      (sI h p0 2 p4 (p3.toInt8.toInt32)).bind fun h2 =>
      f_J13_fill_l10 E n p0 p2 p3 (p4 + 1) h2
    )
theorem w_J13_fill_l10 (C0 : zCx p l e R s m args below meth c D B0 5 "java/util/Arrays" cJ13_fill E 2 82 (Option.none : Option Jvm.ClassFile.FieldType) "fill") {r : Unit} {h' : zH} : ∀ (n : Nat) (p0 : Nat) (p2 : Int32) (p3 : Int32) (p4 : Int32) (h : zH), f_J13_fill_l10 E n p0 p2 p3 p4 h = some (r, h') → zW p l e R s m args below meth c D B0 5 (zEnd D B0 R below args s (zoV r) h') h 10 [(0, .ref p0), (2, .int p2), (3, .int p3), (4, .int p4)] [] := by
  intro n
  induction n with
  | zero =>
    intro p0 p2 p3 p4 h hf
    unfold f_J13_fill_l10 at hf
    cases hf
  | succ n ih =>
    intro p0 p2 p3 p4 h hf
    unfold f_J13_fill_l10 at hf
    refine zr_iload C0 dJ13_fill_10 3 rfl ?_
    refine zr_iload_n C0 dJ13_fill_12 rfl 1 rfl ?_
    refine zr_icmp_ge C0 (tgt := 27) dJ13_fill_13 (by decide) (fun c1 => ?_) (fun c1 => ?_)
    · have hf := zif_t c1 hf
      refine zretW hf ?_
      exact zr_vret C0 rfl dJ13_fill_27 rfl
    · have hf := zif_f c1 hf
      refine zr_aload_n C0 dJ13_fill_16 rfl 0 rfl ?_
      refine zr_iload C0 dJ13_fill_17 3 rfl ?_
      refine zr_iload_n C0 dJ13_fill_19 rfl 2 rfl ?_
      obtain ⟨h2, e3, hf⟩ := zbind hf
      refine zr_bast C0 dJ13_fill_20 e3 ?_
      refine zr_iinc (lv' := [(4, .int (p4 + 1)), (0, .ref p0), (2, .int p2), (3, .int p3)]) C0 dJ13_fill_21 3 rfl rfl (by decide) (by first | rfl | simp [zst1, zst2, zcat_rf]) ?_
      refine zr_goto C0 (tgt := 10) dJ13_fill_24 (by decide) ?_
      refine zr_sub [1, 2, 3, 0] rfl ?_
      exact ih _ _ _ _ _ hf
def f_J13_fill_b0 (E : zE) (p0 : Nat) (p1 : Int32) (p2 : Int32) (p3 : Int32) (h : zH) : Option (Unit × zH) :=
  (lenA h p0).bind fun x1 =>
  bnd2 (f_J13_rangeCheck E x1 p1 p2 h) fun x5 h3 =>
  f_J13_fill_l10 E E.1 p0 p2 p3 p1 h3
theorem w_J13_fill_b0 (C0 : zCx p l e R s m args below meth c D B0 5 "java/util/Arrays" cJ13_fill E 2 82 (Option.none : Option Jvm.ClassFile.FieldType) "fill") {r : Unit} {h' : zH} {p0 : Nat} {p1 : Int32} {p2 : Int32} {p3 : Int32} {h : zH} (hf : f_J13_fill_b0 E p0 p1 p2 p3 h = some (r, h')) : zW p l e R s m args below meth c D B0 5 (zEnd D B0 R below args s (zoV r) h') h 0 [(0, .ref p0), (1, .int p1), (2, .int p2), (3, .int p3)] [] := by
  unfold f_J13_fill_b0 at hf
  refine zr_aload_n C0 dJ13_fill_0 rfl 0 rfl ?_
  obtain ⟨x1, e2, hf⟩ := zbind hf
  refine zr_alen C0 dJ13_fill_1 e2 ?_
  refine zr_iload_n C0 dJ13_fill_2 rfl 1 rfl ?_
  refine zr_iload_n C0 dJ13_fill_3 rfl 2 rfl ?_
  obtain ⟨x5, h3, e4, hf⟩ := zbind2 hf
  refine zr_callS_r C0 cv_J13_13 (m_J13_rangeCheck C0.2.2.2.2.2.2.1 e4) (by decide) (by decide) rfl rfl (Nat.le_of_ble_eq_true rfl) dJ13_fill_4 rfl ?_
  refine zr_iload_n C0 dJ13_fill_7 rfl 1 rfl ?_
  refine zr_istore (i := 4) (lv' := [(4, .int p1), (0, .ref p0), (1, .int p1), (2, .int p2), (3, .int p3)]) C0 dJ13_fill_8 (by decide) (by first | rfl | simp [zst1, zst2, zcat_rf]) ?_
  refine zr_sub [1, 3, 4, 0] rfl ?_
  exact w_J13_fill_l10 C0 _ _ _ _ _ _ hf
def f_J13_fill (E : zE) (p0 : Nat) (p1 : Int32) (p2 : Int32) (p3 : Int32) (h : zH) : Option (Unit × zH) := f_J13_fill_b0 E p0 p1 p2 p3 h
theorem m_J13_fill {l : Launch} (hst : l.stackTraces = false) {D : zD} {B0 : Nat} {E : zE} {p0 : Nat} {p1 : Int32} {p2 : Int32} {p3 : Int32} {h h' : zH} {r : Unit} (hf : f_J13_fill E p0 p1 p2 p3 h = some (r, h')) : zMet l yJ13_fill (ws_ yJ13_fill cJ13_fill 5 (Option.none : Option Jvm.ClassFile.FieldType)) 2 82 D B0 E [.ref p0, .int p1, .int p2, .int p3] h (zoV r) h' := by
  unfold f_J13_fill at hf
  refine zMet_of hst (by decide +kernel) rfl rfl (Nat.le_of_ble_eq_true rfl) (fun p e R s m below meth c C0 hno => ?_)
  show zW _ _ _ _ _ _ _ _ _ _ _ _ _ _ _ _ [(0, .ref p0), (1, .int p1), (2, .int p2), (3, .int p3)] []
  exact w_J13_fill_b0 C0 hf
def f_J10_fillNull_b0 (E : zE) (p0 : Nat) (p1 : Int32) (p2 : Int32) (h : zH) : Option (Unit × zH) :=
  bnd2 (f_J13_fill E p0 (p1 <<< ((1 : Int32) &&& 31)) (p2 <<< ((1 : Int32) &&& 31)) (0 : Int32) h) fun x3 h1 =>
  some ((), h1)
theorem w_J10_fillNull_b0 (C0 : zCx p l e R s m args below meth c D B0 3 "java/lang/StringUTF16" cJ10_fillNull E 3 106 (Option.none : Option Jvm.ClassFile.FieldType) "fillNull") {r : Unit} {h' : zH} {p0 : Nat} {p1 : Int32} {p2 : Int32} {h : zH} (hf : f_J10_fillNull_b0 E p0 p1 p2 h = some (r, h')) : zW p l e R s m args below meth c D B0 3 (zEnd D B0 R below args s (zoV r) h') h 0 [(0, .ref p0), (1, .int p1), (2, .int p2)] [] := by
  unfold f_J10_fillNull_b0 at hf
  refine zr_aload_n C0 dJ10_fillNull_0 rfl 0 rfl ?_
  refine zr_iload_n C0 dJ10_fillNull_1 rfl 1 rfl ?_
  refine zr_iconst C0 (v := 1) dJ10_fillNull_2 (by decide) ?_
  refine zr_ishl C0 dJ10_fillNull_3 ?_
  refine zr_iload_n C0 dJ10_fillNull_4 rfl 2 rfl ?_
  refine zr_iconst C0 (v := 1) dJ10_fillNull_5 (by decide) ?_
  refine zr_ishl C0 dJ10_fillNull_6 ?_
  refine zr_iconst C0 (v := 0) dJ10_fillNull_7 (by decide) ?_
  obtain ⟨x3, h1, e2, hf⟩ := zbind2 hf
  refine zr_callS_r C0 cv_J10_380 (m_J13_fill C0.2.2.2.2.2.2.1 e2) (by decide) (by decide) rfl rfl (Nat.le_of_ble_eq_true rfl) dJ10_fillNull_8 rfl ?_
  refine zretW hf ?_
  exact zr_vret C0 rfl dJ10_fillNull_11 rfl
def f_J10_fillNull (E : zE) (p0 : Nat) (p1 : Int32) (p2 : Int32) (h : zH) : Option (Unit × zH) := f_J10_fillNull_b0 E p0 p1 p2 h
theorem m_J10_fillNull {l : Launch} (hst : l.stackTraces = false) {D : zD} {B0 : Nat} {E : zE} {p0 : Nat} {p1 : Int32} {p2 : Int32} {h h' : zH} {r : Unit} (hf : f_J10_fillNull E p0 p1 p2 h = some (r, h')) : zMet l yJ10_fillNull (ws_ yJ10_fillNull cJ10_fillNull 3 (Option.none : Option Jvm.ClassFile.FieldType)) 3 106 D B0 E [.ref p0, .int p1, .int p2] h (zoV r) h' := by
  unfold f_J10_fillNull at hf
  refine zMet_of hst (by decide +kernel) rfl rfl (Nat.le_of_ble_eq_true rfl) (fun p e R s m below meth c C0 hno => ?_)
  show zW _ _ _ _ _ _ _ _ _ _ _ _ _ _ _ _ [(0, .ref p0), (1, .int p1), (2, .int p2)] []
  exact w_J10_fillNull_b0 C0 hf
def f_J15_fillNull_b0 (E : zE) (p0 : Nat) (p1 : Int32) (p2 : Int32) (h : zH) : Option (Unit × zH) :=
  bnd2 (f_J13_fill E p0 p1 p2 (0 : Int32) h) fun x3 h1 =>
  some ((), h1)
theorem w_J15_fillNull_b0 (C0 : zCx p l e R s m args below meth c D B0 3 "java/lang/StringLatin1" cJ15_fillNull E 3 106 (Option.none : Option Jvm.ClassFile.FieldType) "fillNull") {r : Unit} {h' : zH} {p0 : Nat} {p1 : Int32} {p2 : Int32} {h : zH} (hf : f_J15_fillNull_b0 E p0 p1 p2 h = some (r, h')) : zW p l e R s m args below meth c D B0 3 (zEnd D B0 R below args s (zoV r) h') h 0 [(0, .ref p0), (1, .int p1), (2, .int p2)] [] := by
  unfold f_J15_fillNull_b0 at hf
  refine zr_aload_n C0 dJ15_fillNull_0 rfl 0 rfl ?_
  refine zr_iload_n C0 dJ15_fillNull_1 rfl 1 rfl ?_
  refine zr_iload_n C0 dJ15_fillNull_2 rfl 2 rfl ?_
  refine zr_iconst C0 (v := 0) dJ15_fillNull_3 (by decide) ?_
  obtain ⟨x3, h1, e2, hf⟩ := zbind2 hf
  refine zr_callS_r C0 cv_J15_236 (m_J13_fill C0.2.2.2.2.2.2.1 e2) (by decide) (by decide) rfl rfl (Nat.le_of_ble_eq_true rfl) dJ15_fillNull_4 rfl ?_
  refine zretW hf ?_
  exact zr_vret C0 rfl dJ15_fillNull_7 rfl
def f_J15_fillNull (E : zE) (p0 : Nat) (p1 : Int32) (p2 : Int32) (h : zH) : Option (Unit × zH) := f_J15_fillNull_b0 E p0 p1 p2 h
theorem m_J15_fillNull {l : Launch} (hst : l.stackTraces = false) {D : zD} {B0 : Nat} {E : zE} {p0 : Nat} {p1 : Int32} {p2 : Int32} {h h' : zH} {r : Unit} (hf : f_J15_fillNull E p0 p1 p2 h = some (r, h')) : zMet l yJ15_fillNull (ws_ yJ15_fillNull cJ15_fillNull 3 (Option.none : Option Jvm.ClassFile.FieldType)) 3 106 D B0 E [.ref p0, .int p1, .int p2] h (zoV r) h' := by
  unfold f_J15_fillNull at hf
  refine zMet_of hst (by decide +kernel) rfl rfl (Nat.le_of_ble_eq_true rfl) (fun p e R s m below meth c C0 hno => ?_)
  show zW _ _ _ _ _ _ _ _ _ _ _ _ _ _ _ _ [(0, .ref p0), (1, .int p1), (2, .int p2)] []
  exact w_J15_fillNull_b0 C0 hf
def f_J7_setLength_b76 (E : zE) (p0 : Nat) (p1 : Int32) (h : zH) : Option (Unit × zH) :=
  (pF h p0 18 3 (.int p1)).bind fun h1 =>
  some ((), h1)
theorem w_J7_setLength_b76 (C0 : zCx p l e R s m args below meth c D B0 2 "java/lang/AbstractStringBuilder" cJ7_setLength E 5 152 (Option.none : Option Jvm.ClassFile.FieldType) "setLength") {r : Unit} {h' : zH} {p0 : Nat} {p1 : Int32} {h : zH} (hf : f_J7_setLength_b76 E p0 p1 h = some (r, h')) : zW p l e R s m args below meth c D B0 2 (zEnd D B0 R below args s (zoV r) h') h 76 [(0, .ref p0), (1, .int p1)] [] := by
  unfold f_J7_setLength_b76 at hf
  refine zr_aload_n C0 dJ7_setLength_76 rfl 0 rfl ?_
  refine zr_iload_n C0 dJ7_setLength_77 rfl 1 rfl ?_
  obtain ⟨h1, e2, hf⟩ := zbind hf
  refine zr_put C0 pl_J7_79_J8 dJ7_setLength_78 (fun h => by cases h) rfl rfl e2 ?_
  refine zretW hf ?_
  exact zr_vret C0 rfl dJ7_setLength_81 rfl
def f_J7_setLength_b0 (E : zE) (p0 : Nat) (p1 : Int32) (h : zH) : Option (Unit × zH) :=
  if 0 ≤ p1 then (
    (cko h p0 18).bind fun _ =>
    bnd2 (f_J7_ensureCapacityInternal E p0 p1 h) fun x5 h3 =>
    (gI h3 p0 18 3).bind fun x6 =>
    if p1 ≤ x6 then (
      (gI h3 p0 18 3).bind fun x9 =>
      if x9 ≤ p1 then (
        f_J7_setLength_b76 E p0 p1 h3
      ) else (
        (pF h3 p0 18 2 (.int (1 : Int32))).bind fun h12 =>
        f_J7_setLength_b76 E p0 p1 h12
      )
    ) else (
      (cko h3 p0 18).bind fun _ =>
      bnd2 (f_J7_isLatin1 E p0 h3) fun x17 h15 =>
      if x17 = 0 then (
        (gR h15 p0 18 0).bind fun x19 =>
        (gI h15 p0 18 3).bind fun x21 =>
        bnd2 (f_J10_fillNull E x19 x21 p1 h15) fun x25 h23 =>
        f_J7_setLength_b76 E p0 p1 h23
      ) else (
        (gR h15 p0 18 0).bind fun x26 =>
        (gI h15 p0 18 3).bind fun x28 =>
        bnd2 (f_J15_fillNull E x26 x28 p1 h15) fun x32 h30 =>
        f_J7_setLength_b76 E p0 p1 h30
      )
    )
  ) else (
    none
  )
theorem w_J7_setLength_b0 (C0 : zCx p l e R s m args below meth c D B0 2 "java/lang/AbstractStringBuilder" cJ7_setLength E 5 152 (Option.none : Option Jvm.ClassFile.FieldType) "setLength") {r : Unit} {h' : zH} {p0 : Nat} {p1 : Int32} {h : zH} (hf : f_J7_setLength_b0 E p0 p1 h = some (r, h')) : zW p l e R s m args below meth c D B0 2 (zEnd D B0 R below args s (zoV r) h') h 0 [(0, .ref p0), (1, .int p1)] [] := by
  unfold f_J7_setLength_b0 at hf
  refine zr_iload_n C0 dJ7_setLength_0 rfl 1 rfl ?_
  refine zr_if_ge C0 (tgt := 13) dJ7_setLength_1 (by decide) (fun c1 => ?_) (fun c1 => ?_)
  · have hf := zif_t c1 hf
    refine zr_aload_n C0 dJ7_setLength_13 rfl 0 rfl ?_
    refine zr_iload_n C0 dJ7_setLength_14 rfl 1 rfl ?_
    obtain ⟨_, e2, hf⟩ := zbind hf
    obtain ⟨x5, h3, e4, hf⟩ := zbind2 hf
    refine zr_callO_r C0 cv_J7_100_J8 rfl (zcko e2) (m_J7_ensureCapacityInternal C0.2.2.2.2.2.2.1 e4) (by decide) (by decide) rfl rfl (Nat.le_of_ble_eq_true rfl) dJ7_setLength_15 rfl ?_
    refine zr_aload_n C0 dJ7_setLength_18 rfl 0 rfl ?_
    obtain ⟨x6, e7, hf⟩ := zbind hf
    refine zr_get C0 fl_J7_79_J8 dJ7_setLength_19 (zgI e7) ?_
    refine zr_iload_n C0 dJ7_setLength_22 rfl 1 rfl ?_
    refine zr_icmp_ge C0 (tgt := 63) dJ7_setLength_23 (by decide) (fun c8 => ?_) (fun c8 => ?_)
    · have hf := zif_t c8 hf
      refine zr_aload_n C0 dJ7_setLength_63 rfl 0 rfl ?_
      obtain ⟨x9, e10, hf⟩ := zbind hf
      refine zr_get C0 fl_J7_79_J8 dJ7_setLength_64 (zgI e10) ?_
      refine zr_iload_n C0 dJ7_setLength_67 rfl 1 rfl ?_
      refine zr_icmp_le C0 (tgt := 76) dJ7_setLength_68 (by decide) (fun c11 => ?_) (fun c11 => ?_)
      · have hf := zif_t c11 hf
        exact w_J7_setLength_b76 C0 hf
      · have hf := zif_f c11 hf
        refine zr_aload_n C0 dJ7_setLength_71 rfl 0 rfl ?_
        refine zr_iconst C0 (v := 1) dJ7_setLength_72 (by decide) ?_
        obtain ⟨h12, e13, hf⟩ := zbind hf
        refine zr_put C0 pl_J7_73_J8 dJ7_setLength_73 (fun h => by cases h) (by decide) (by decide) e13 ?_
        exact w_J7_setLength_b76 C0 hf
    · have hf := zif_f c8 hf
      refine zr_aload_n C0 dJ7_setLength_26 rfl 0 rfl ?_
      obtain ⟨_, e14, hf⟩ := zbind hf
      obtain ⟨x17, h15, e16, hf⟩ := zbind2 hf
      refine zr_callU_r C0 cv_J7_83_J8 rfl (zcko e14) (m_J7_isLatin1 C0.2.2.2.2.2.2.1 e16) (by decide) (by decide) rfl rfl (Nat.le_of_ble_eq_true rfl) dJ7_setLength_27 rfl ?_
      refine zr_if_eq C0 (tgt := 48) dJ7_setLength_30 (by decide) (fun c18 => ?_) (fun c18 => ?_)
      · have hf := zif_t c18 hf
        refine zr_aload_n C0 dJ7_setLength_48 rfl 0 rfl ?_
        obtain ⟨x19, e20, hf⟩ := zbind hf
        refine zr_get C0 fl_J7_15_J8 dJ7_setLength_49 (zgR e20) ?_
        refine zr_aload_n C0 dJ7_setLength_52 rfl 0 rfl ?_
        obtain ⟨x21, e22, hf⟩ := zbind hf
        refine zr_get C0 fl_J7_79_J8 dJ7_setLength_53 (zgI e22) ?_
        refine zr_iload_n C0 dJ7_setLength_56 rfl 1 rfl ?_
        obtain ⟨x25, h23, e24, hf⟩ := zbind2 hf
        refine zr_callS_r C0 cv_J7_137 (m_J10_fillNull C0.2.2.2.2.2.2.1 e24) (by decide) (by decide) rfl rfl (Nat.le_of_ble_eq_true rfl) dJ7_setLength_57 rfl ?_
        refine zr_goto C0 (tgt := 76) dJ7_setLength_60 (by decide) ?_
        exact w_J7_setLength_b76 C0 hf
      · have hf := zif_f c18 hf
        refine zr_aload_n C0 dJ7_setLength_33 rfl 0 rfl ?_
        obtain ⟨x26, e27, hf⟩ := zbind hf
        refine zr_get C0 fl_J7_15_J8 dJ7_setLength_34 (zgR e27) ?_
        refine zr_aload_n C0 dJ7_setLength_37 rfl 0 rfl ?_
        obtain ⟨x28, e29, hf⟩ := zbind hf
        refine zr_get C0 fl_J7_79_J8 dJ7_setLength_38 (zgI e29) ?_
        refine zr_iload_n C0 dJ7_setLength_41 rfl 1 rfl ?_
        obtain ⟨x32, h30, e31, hf⟩ := zbind2 hf
        refine zr_callS_r C0 cv_J7_133 (m_J15_fillNull C0.2.2.2.2.2.2.1 e31) (by decide) (by decide) rfl rfl (Nat.le_of_ble_eq_true rfl) dJ7_setLength_42 rfl ?_
        refine zr_goto C0 (tgt := 76) dJ7_setLength_45 (by decide) ?_
        exact w_J7_setLength_b76 C0 hf
  · have hf := zif_f c1 hf
    cases hf
def f_J7_setLength (E : zE) (p0 : Nat) (p1 : Int32) (h : zH) : Option (Unit × zH) := f_J7_setLength_b0 E p0 p1 h
theorem m_J7_setLength {l : Launch} (hst : l.stackTraces = false) {D : zD} {B0 : Nat} {E : zE} {p0 : Nat} {p1 : Int32} {h h' : zH} {r : Unit} (hf : f_J7_setLength E p0 p1 h = some (r, h')) : zMet l yJ7_setLength (ws_ yJ7_setLength cJ7_setLength 2 (Option.none : Option Jvm.ClassFile.FieldType)) 5 152 D B0 E [.ref p0, .int p1] h (zoV r) h' := by
  unfold f_J7_setLength at hf
  refine zMet_of hst (by decide +kernel) rfl rfl (Nat.le_of_ble_eq_true rfl) (fun p e R s m below meth c C0 hno => ?_)
  show zW _ _ _ _ _ _ _ _ _ _ _ _ _ _ _ _ [(0, .ref p0), (1, .int p1)] []
  exact w_J7_setLength_b0 C0 hf
def f_J8_setLength_b0 (E : zE) (p0 : Nat) (p1 : Int32) (h : zH) : Option (Unit × zH) :=
  (cko h p0 18).bind fun _ =>
  bnd2 (f_J7_setLength E p0 p1 h) fun x4 h2 =>
  some ((), h2)
theorem w_J8_setLength_b0 (C0 : zCx p l e R s m args below meth c D B0 2 "java/lang/StringBuilder" cJ8_setLength E 6 173 (Option.none : Option Jvm.ClassFile.FieldType) "setLength") {r : Unit} {h' : zH} {p0 : Nat} {p1 : Int32} {h : zH} (hf : f_J8_setLength_b0 E p0 p1 h = some (r, h')) : zW p l e R s m args below meth c D B0 2 (zEnd D B0 R below args s (zoV r) h') h 0 [(0, .ref p0), (1, .int p1)] [] := by
  unfold f_J8_setLength_b0 at hf
  refine zr_aload_n C0 dJ8_setLength_0 rfl 0 rfl ?_
  refine zr_iload_n C0 dJ8_setLength_1 rfl 1 rfl ?_
  obtain ⟨_, e1, hf⟩ := zbind hf
  obtain ⟨x4, h2, e3, hf⟩ := zbind2 hf
  refine zr_callSU_r C0 cv_J8_333 rfl (zcko e1) (m_J7_setLength C0.2.2.2.2.2.2.1 e3) (by decide) (by decide) rfl rfl (Nat.le_of_ble_eq_true rfl) dJ8_setLength_2 rfl ?_
  refine zretW hf ?_
  exact zr_vret C0 rfl dJ8_setLength_5 rfl
def f_J8_setLength (E : zE) (p0 : Nat) (p1 : Int32) (h : zH) : Option (Unit × zH) := f_J8_setLength_b0 E p0 p1 h
theorem m_J8_setLength {l : Launch} (hst : l.stackTraces = false) {D : zD} {B0 : Nat} {E : zE} {p0 : Nat} {p1 : Int32} {h h' : zH} {r : Unit} (hf : f_J8_setLength E p0 p1 h = some (r, h')) : zMet l yJ8_setLength (ws_ yJ8_setLength cJ8_setLength 2 (Option.none : Option Jvm.ClassFile.FieldType)) 6 173 D B0 E [.ref p0, .int p1] h (zoV r) h' := by
  unfold f_J8_setLength at hf
  refine zMet_of hst (by decide +kernel) rfl rfl (Nat.le_of_ble_eq_true rfl) (fun p e R s m below meth c C0 hno => ?_)
  show zW _ _ _ _ _ _ _ _ _ _ _ _ _ _ _ _ [(0, .ref p0), (1, .int p1)] []
  exact w_J8_setLength_b0 C0 hf
def f_X1_nameOf_b79 (E : zE) (s0 : Nat) (h : zH) : Option (Nat × zH) :=
  some (s0, h)
theorem w_X1_nameOf_b79 (C0 : zCx p l e R s m args below meth c D B0 1 "FranchiseLedger" cX1_nameOf E 1 60 (Option.some (Jvm.ClassFile.FieldType.object "java/lang/String")) "nameOf") {r : Nat} {h' : zH} {s0 : Nat} {h : zH} (hf : f_X1_nameOf_b79 E s0 h = some (r, h')) : zW p l e R s m args below meth c D B0 1 (zEnd D B0 R below args s (zoR r) h') h 79 [] [.ref s0] := by
  unfold f_X1_nameOf_b79 at hf
  refine zretW hf ?_
  exact zr_aret C0 rfl (Or.inl ⟨_, rfl⟩) dX1_nameOf_79 rfl
def f_X1_nameOf_b0 (E : zE) (p0 : Int32) (h : zH) : Option (Nat × zH) :=
  if p0 = 0 then (
    f_X1_nameOf_b79 E (E.2.1 0) h
  ) else (
  if p0 = 1 then (
    f_X1_nameOf_b79 E (E.2.1 1) h
  ) else (
  if p0 = 2 then (
    f_X1_nameOf_b79 E (E.2.1 2) h
  ) else (
  if p0 = 3 then (
    f_X1_nameOf_b79 E (E.2.1 3) h
  ) else (
  if p0 = 4 then (
    f_X1_nameOf_b79 E (E.2.1 4) h
  ) else (
  if p0 = 5 then (
    f_X1_nameOf_b79 E (E.2.1 5) h
  ) else (
    f_X1_nameOf_b79 E (E.2.1 6) h
  ))))))
theorem w_X1_nameOf_b0 (C0 : zCx p l e R s m args below meth c D B0 1 "FranchiseLedger" cX1_nameOf E 1 60 (Option.some (Jvm.ClassFile.FieldType.object "java/lang/String")) "nameOf") {r : Nat} {h' : zH} {p0 : Int32} {h : zH} (hf : f_X1_nameOf_b0 E p0 h = some (r, h')) : zW p l e R s m args below meth c D B0 1 (zEnd D B0 R below args s (zoR r) h') h 0 [(0, .int p0)] [] := by
  unfold f_X1_nameOf_b0 at hf
  refine zr_iload_n C0 dX1_nameOf_0 rfl 0 rfl ?_
  rcases Decidable.em (p0 = 0) with c1 | c1
  · have hf := zif_t c1 hf
    refine zr_tableIn C0 (v := 0) (tgt := 40) dX1_nameOf_1 c1 (by decide) (by decide) rfl (by decide) ?_
    refine zr_ldcwS C0 (i := 0) rfl dX1_nameOf_40 ?_
    refine zr_goto C0 (tgt := 79) dX1_nameOf_43 (by decide) ?_
    refine zr_sub [] rfl ?_
    exact w_X1_nameOf_b79 C0 hf
  have hf := zif_f c1 hf
  rcases Decidable.em (p0 = 1) with c2 | c2
  · have hf := zif_t c2 hf
    refine zr_tableIn C0 (v := 1) (tgt := 46) dX1_nameOf_1 c2 (by decide) (by decide) rfl (by decide) ?_
    refine zr_ldcwS C0 (i := 1) rfl dX1_nameOf_46 ?_
    refine zr_goto C0 (tgt := 79) dX1_nameOf_49 (by decide) ?_
    refine zr_sub [] rfl ?_
    exact w_X1_nameOf_b79 C0 hf
  have hf := zif_f c2 hf
  rcases Decidable.em (p0 = 2) with c3 | c3
  · have hf := zif_t c3 hf
    refine zr_tableIn C0 (v := 2) (tgt := 52) dX1_nameOf_1 c3 (by decide) (by decide) rfl (by decide) ?_
    refine zr_ldcwS C0 (i := 2) rfl dX1_nameOf_52 ?_
    refine zr_goto C0 (tgt := 79) dX1_nameOf_55 (by decide) ?_
    refine zr_sub [] rfl ?_
    exact w_X1_nameOf_b79 C0 hf
  have hf := zif_f c3 hf
  rcases Decidable.em (p0 = 3) with c4 | c4
  · have hf := zif_t c4 hf
    refine zr_tableIn C0 (v := 3) (tgt := 58) dX1_nameOf_1 c4 (by decide) (by decide) rfl (by decide) ?_
    refine zr_ldcwS C0 (i := 3) rfl dX1_nameOf_58 ?_
    refine zr_goto C0 (tgt := 79) dX1_nameOf_61 (by decide) ?_
    refine zr_sub [] rfl ?_
    exact w_X1_nameOf_b79 C0 hf
  have hf := zif_f c4 hf
  rcases Decidable.em (p0 = 4) with c5 | c5
  · have hf := zif_t c5 hf
    refine zr_tableIn C0 (v := 4) (tgt := 64) dX1_nameOf_1 c5 (by decide) (by decide) rfl (by decide) ?_
    refine zr_ldcwS C0 (i := 4) rfl dX1_nameOf_64 ?_
    refine zr_goto C0 (tgt := 79) dX1_nameOf_67 (by decide) ?_
    refine zr_sub [] rfl ?_
    exact w_X1_nameOf_b79 C0 hf
  have hf := zif_f c5 hf
  rcases Decidable.em (p0 = 5) with c6 | c6
  · have hf := zif_t c6 hf
    refine zr_tableIn C0 (v := 5) (tgt := 70) dX1_nameOf_1 c6 (by decide) (by decide) rfl (by decide) ?_
    refine zr_ldcwS C0 (i := 5) rfl dX1_nameOf_70 ?_
    refine zr_goto C0 (tgt := 79) dX1_nameOf_73 (by decide) ?_
    refine zr_sub [] rfl ?_
    exact w_X1_nameOf_b79 C0 hf
  have hf := zif_f c6 hf
  refine zr_tableOut C0 (tgt := 76) dX1_nameOf_1 ?_ (by decide) ?_
  · have n0 := lv_neT (a := 0) c1 rfl; have n1 := lv_neT (a := 1) c2 rfl; have n2 := lv_neT (a := 2) c3 rfl; have n3 := lv_neT (a := 3) c4 rfl; have n4 := lv_neT (a := 4) c5 rfl; have n5 := lv_neT (a := 5) c6 rfl; omega
  refine zr_ldcwS C0 (i := 6) rfl dX1_nameOf_76 ?_
  refine zr_sub [] rfl ?_
  exact w_X1_nameOf_b79 C0 hf
def f_X1_nameOf (E : zE) (p0 : Int32) (h : zH) : Option (Nat × zH) := f_X1_nameOf_b0 E p0 h
theorem m_X1_nameOf {l : Launch} (hst : l.stackTraces = false) {D : zD} {B0 : Nat} {E : zE} {p0 : Int32} {h h' : zH} {r : Nat} (hf : f_X1_nameOf E p0 h = some (r, h')) : zMet l yX1_nameOf (ws_ yX1_nameOf cX1_nameOf 1 (Option.some (Jvm.ClassFile.FieldType.object "java/lang/String"))) 1 60 D B0 E [.int p0] h (zoR r) h' := by
  unfold f_X1_nameOf at hf
  refine zMet_of hst (by decide +kernel) rfl rfl (Nat.le_of_ble_eq_true rfl) (fun p e R s m below meth c C0 hno => ?_)
  show zW _ _ _ _ _ _ _ _ _ _ _ _ _ _ _ _ [(0, .int p0)] []
  exact w_X1_nameOf_b0 C0 hf
def f_J7_inflateIfNeededFor_b21 (E : zE) (h : zH) : Option (Unit × zH) :=
  some ((), h)
theorem w_J7_inflateIfNeededFor_b21 (C0 : zCx p l e R s m args below meth c D B0 2 "java/lang/AbstractStringBuilder" cJ7_inflateIfNeededFor E 2 80 (Option.none : Option Jvm.ClassFile.FieldType) "inflateIfNeededFor") {r : Unit} {h' : zH} {h : zH} (hf : f_J7_inflateIfNeededFor_b21 E  h = some (r, h')) : zW p l e R s m args below meth c D B0 2 (zEnd D B0 R below args s (zoV r) h') h 21 [] [] := by
  unfold f_J7_inflateIfNeededFor_b21 at hf
  refine zretW hf ?_
  exact zr_vret C0 rfl dJ7_inflateIfNeededFor_21 rfl
def f_J7_inflateIfNeededFor_b0 (E : zE) (p0 : Nat) (p1 : Nat) (h : zH) : Option (Unit × zH) :=
  if (1 : Int32) = 0 then (
    f_J7_inflateIfNeededFor_b21 E  h
  ) else (
    (gI h p0 18 1).bind fun x2 =>
    (cko h p1 19).bind fun _ =>
    bnd2 (f_J9_coder E p1 h) fun x7 h5 =>
    if x2 = x7 then (
      f_J7_inflateIfNeededFor_b21 E  h5
    ) else (
      none
    )
  )
theorem w_J7_inflateIfNeededFor_b0 (C0 : zCx p l e R s m args below meth c D B0 2 "java/lang/AbstractStringBuilder" cJ7_inflateIfNeededFor E 2 80 (Option.none : Option Jvm.ClassFile.FieldType) "inflateIfNeededFor") {r : Unit} {h' : zH} {p0 : Nat} {p1 : Nat} {h : zH} (hf : f_J7_inflateIfNeededFor_b0 E p0 p1 h = some (r, h')) : zW p l e R s m args below meth c D B0 2 (zEnd D B0 R below args s (zoV r) h') h 0 [(0, .ref p0), (1, .ref p1)] [] := by
  unfold f_J7_inflateIfNeededFor_b0 at hf
  refine zr_gets C0 (C0.2.2.2.2.2.2.2.2.2.1.2.2.1 _ (List.mem_of_getElem? (i := 0) rfl)) q259 dJ7_inflateIfNeededFor_0 ?_
  refine zr_if_eq C0 (tgt := 21) dJ7_inflateIfNeededFor_3 (by decide) (fun c1 => ?_) (fun c1 => ?_)
  · have hf := zif_t c1 hf
    refine zr_sub [] rfl ?_
    exact w_J7_inflateIfNeededFor_b21 C0 hf
  · have hf := zif_f c1 hf
    refine zr_aload_n C0 dJ7_inflateIfNeededFor_6 rfl 0 rfl ?_
    obtain ⟨x2, e3, hf⟩ := zbind hf
    refine zr_get C0 fl_J7_22_J8 dJ7_inflateIfNeededFor_7 (zgI e3) ?_
    refine zr_aload_n C0 dJ7_inflateIfNeededFor_10 rfl 1 rfl ?_
    obtain ⟨_, e4, hf⟩ := zbind hf
    obtain ⟨x7, h5, e6, hf⟩ := zbind2 hf
    refine zr_callV_r C0 cv_J7_40_J9 rfl (zcko e4) (m_J9_coder C0.2.2.2.2.2.2.1 e6) (by decide) (by decide) rfl rfl (Nat.le_of_ble_eq_true rfl) dJ7_inflateIfNeededFor_11 rfl ?_
    refine zr_icmp_eq C0 (tgt := 21) dJ7_inflateIfNeededFor_14 (by decide) (fun c8 => ?_) (fun c8 => ?_)
    · have hf := zif_t c8 hf
      refine zr_sub [] rfl ?_
      exact w_J7_inflateIfNeededFor_b21 C0 hf
    · have hf := zif_f c8 hf
      refine zr_aload_n C0 dJ7_inflateIfNeededFor_17 rfl 0 rfl ?_
      cases hf
def f_J7_inflateIfNeededFor (E : zE) (p0 : Nat) (p1 : Nat) (h : zH) : Option (Unit × zH) := f_J7_inflateIfNeededFor_b0 E p0 p1 h
theorem m_J7_inflateIfNeededFor {l : Launch} (hst : l.stackTraces = false) {D : zD} {B0 : Nat} {E : zE} {p0 : Nat} {p1 : Nat} {h h' : zH} {r : Unit} (hf : f_J7_inflateIfNeededFor E p0 p1 h = some (r, h')) : zMet l yJ7_inflateIfNeededFor (ws_ yJ7_inflateIfNeededFor cJ7_inflateIfNeededFor 2 (Option.none : Option Jvm.ClassFile.FieldType)) 2 80 D B0 E [.ref p0, .ref p1] h (zoV r) h' := by
  unfold f_J7_inflateIfNeededFor at hf
  refine zMet_of hst (by decide +kernel) rfl rfl (Nat.le_of_ble_eq_true rfl) (fun p e R s m below meth c C0 hno => ?_)
  show zW _ _ _ _ _ _ _ _ _ _ _ _ _ _ _ _ [(0, .ref p0), (1, .ref p1)] []
  exact w_J7_inflateIfNeededFor_b0 C0 hf
def f_J10_inflate_l10 (E : zE) : Nat → Nat → Int32 → Nat → Int32 → Int32 → Int32 → zH → Option (Unit × zH)
  | 0, _, _, _, _, _, _, _ => none
  | n + 1, p0, p1, p2, p3, p4, p5, h =>
    if p4 ≤ p5 then (
      some ((), h)
    ) else (
      (dI h p0 2 p1).bind fun x2 =>
      bnd2 (f_J10_putChar E p2 p3 (x2 &&& (255 : Int32)) h) fun x6 h4 =>
      f_J10_inflate_l10 E n p0 (p1 + 1) p2 (p3 + 1) p4 (p5 + 1) h4
    )
theorem w_J10_inflate_l10 (C0 : zCx p l e R s m args below meth c D B0 6 "java/lang/StringUTF16" cJ10_inflate E 4 127 (Option.none : Option Jvm.ClassFile.FieldType) "inflate") {r : Unit} {h' : zH} : ∀ (n : Nat) (p0 : Nat) (p1 : Int32) (p2 : Nat) (p3 : Int32) (p4 : Int32) (p5 : Int32) (h : zH), f_J10_inflate_l10 E n p0 p1 p2 p3 p4 p5 h = some (r, h') → zW p l e R s m args below meth c D B0 6 (zEnd D B0 R below args s (zoV r) h') h 10 [(0, .ref p0), (1, .int p1), (2, .ref p2), (3, .int p3), (4, .int p4), (5, .int p5)] [] := by
  intro n
  induction n with
  | zero =>
    intro p0 p1 p2 p3 p4 p5 h hf
    unfold f_J10_inflate_l10 at hf
    cases hf
  | succ n ih =>
    intro p0 p1 p2 p3 p4 p5 h hf
    unfold f_J10_inflate_l10 at hf
    refine zr_iload C0 dJ10_inflate_10 5 rfl ?_
    refine zr_iload C0 dJ10_inflate_12 4 rfl ?_
    refine zr_icmp_ge C0 (tgt := 41) dJ10_inflate_14 (by decide) (fun c1 => ?_) (fun c1 => ?_)
    · have hf := zif_t c1 hf
      refine zretW hf ?_
      exact zr_vret C0 rfl dJ10_inflate_41 rfl
    · have hf := zif_f c1 hf
      refine zr_aload_n C0 dJ10_inflate_17 rfl 2 rfl ?_
      refine zr_iload_n C0 dJ10_inflate_18 rfl 3 rfl ?_
      refine zr_iinc (lv' := [(3, .int (p3 + 1)), (0, .ref p0), (1, .int p1), (2, .ref p2), (4, .int p4), (5, .int p5)]) C0 dJ10_inflate_19 3 rfl rfl (by decide) (by first | rfl | simp [zst1, zst2, zcat_rf]) ?_
      refine zr_aload_n C0 dJ10_inflate_22 rfl 1 rfl ?_
      refine zr_iload_n C0 dJ10_inflate_23 rfl 2 rfl ?_
      refine zr_iinc (lv' := [(1, .int (p1 + 1)), (3, .int (p3 + 1)), (0, .ref p0), (2, .ref p2), (4, .int p4), (5, .int p5)]) C0 dJ10_inflate_24 2 rfl rfl (by decide) (by first | rfl | simp [zst1, zst2, zcat_rf]) ?_
      obtain ⟨x2, e3, hf⟩ := zbind hf
      refine zr_bald C0 dJ10_inflate_27 e3 ?_
      refine zr_sipush C0 (v := 255) dJ10_inflate_28 (by decide) ?_
      refine zr_iand C0 dJ10_inflate_31 ?_
      obtain ⟨x6, h4, e5, hf⟩ := zbind2 hf
      refine zr_callS_r C0 cv_J10_111 (m_J10_putChar C0.2.2.2.2.2.2.1 e5) (by decide) (by decide) rfl rfl (Nat.le_of_ble_eq_true rfl) dJ10_inflate_32 rfl ?_
      refine zr_iinc (lv' := [(5, .int (p5 + 1)), (1, .int (p1 + 1)), (3, .int (p3 + 1)), (0, .ref p0), (2, .ref p2), (4, .int p4)]) C0 dJ10_inflate_35 5 rfl rfl (by decide) (by first | rfl | simp [zst1, zst2, zcat_rf]) ?_
      refine zr_goto C0 (tgt := 10) dJ10_inflate_38 (by decide) ?_
      refine zr_sub [3, 1, 4, 2, 5, 0] rfl ?_
      exact ih _ _ _ _ _ _ _ hf
def f_J10_inflate_b0 (E : zE) (p0 : Nat) (p1 : Int32) (p2 : Nat) (p3 : Int32) (p4 : Int32) (h : zH) : Option (Unit × zH) :=
  bnd2 (f_J10_checkBoundsOffCount E p3 p4 p2 h) fun x3 h1 =>
  f_J10_inflate_l10 E E.1 p0 p1 p2 p3 p4 (0 : Int32) h1
theorem w_J10_inflate_b0 (C0 : zCx p l e R s m args below meth c D B0 6 "java/lang/StringUTF16" cJ10_inflate E 4 127 (Option.none : Option Jvm.ClassFile.FieldType) "inflate") {r : Unit} {h' : zH} {p0 : Nat} {p1 : Int32} {p2 : Nat} {p3 : Int32} {p4 : Int32} {h : zH} (hf : f_J10_inflate_b0 E p0 p1 p2 p3 p4 h = some (r, h')) : zW p l e R s m args below meth c D B0 6 (zEnd D B0 R below args s (zoV r) h') h 0 [(0, .ref p0), (1, .int p1), (2, .ref p2), (3, .int p3), (4, .int p4)] [] := by
  unfold f_J10_inflate_b0 at hf
  refine zr_iload_n C0 dJ10_inflate_0 rfl 3 rfl ?_
  refine zr_iload C0 dJ10_inflate_1 4 rfl ?_
  refine zr_aload_n C0 dJ10_inflate_3 rfl 2 rfl ?_
  obtain ⟨x3, h1, e2, hf⟩ := zbind2 hf
  refine zr_callS_r C0 cv_J10_173 (m_J10_checkBoundsOffCount C0.2.2.2.2.2.2.1 e2) (by decide) (by decide) rfl rfl (Nat.le_of_ble_eq_true rfl) dJ10_inflate_4 rfl ?_
  refine zr_iconst C0 (v := 0) dJ10_inflate_7 (by decide) ?_
  refine zr_istore (i := 5) (lv' := [(5, .int (0 : Int32)), (0, .ref p0), (1, .int p1), (2, .ref p2), (3, .int p3), (4, .int p4)]) C0 dJ10_inflate_8 (by decide) (by first | rfl | simp [zst1, zst2, zcat_rf]) ?_
  refine zr_sub [1, 2, 3, 4, 5, 0] rfl ?_
  exact w_J10_inflate_l10 C0 _ _ _ _ _ _ _ _ hf
def f_J10_inflate (E : zE) (p0 : Nat) (p1 : Int32) (p2 : Nat) (p3 : Int32) (p4 : Int32) (h : zH) : Option (Unit × zH) := f_J10_inflate_b0 E p0 p1 p2 p3 p4 h
theorem m_J10_inflate {l : Launch} (hst : l.stackTraces = false) {D : zD} {B0 : Nat} {E : zE} {p0 : Nat} {p1 : Int32} {p2 : Nat} {p3 : Int32} {p4 : Int32} {h h' : zH} {r : Unit} (hf : f_J10_inflate E p0 p1 p2 p3 p4 h = some (r, h')) : zMet l yJ10_inflate (ws_ yJ10_inflate cJ10_inflate 6 (Option.none : Option Jvm.ClassFile.FieldType)) 4 127 D B0 E [.ref p0, .int p1, .ref p2, .int p3, .int p4] h (zoV r) h' := by
  unfold f_J10_inflate at hf
  refine zMet_of hst (by decide +kernel) rfl rfl (Nat.le_of_ble_eq_true rfl) (fun p e R s m below meth c C0 hno => ?_)
  show zW _ _ _ _ _ _ _ _ _ _ _ _ _ _ _ _ [(0, .ref p0), (1, .int p1), (2, .ref p2), (3, .int p3), (4, .int p4)] []
  exact w_J10_inflate_b0 C0 hf
def f_J15_inflate_b0 (E : zE) (p0 : Nat) (p1 : Int32) (p2 : Nat) (p3 : Int32) (p4 : Int32) (h : zH) : Option (Unit × zH) :=
  bnd2 (f_J10_inflate E p0 p1 p2 p3 p4 h) fun x3 h1 =>
  some ((), h1)
theorem w_J15_inflate_b0 (C0 : zCx p l e R s m args below meth c D B0 5 "java/lang/StringLatin1" cJ15_inflate E 5 152 (Option.none : Option Jvm.ClassFile.FieldType) "inflate") {r : Unit} {h' : zH} {p0 : Nat} {p1 : Int32} {p2 : Nat} {p3 : Int32} {p4 : Int32} {h : zH} (hf : f_J15_inflate_b0 E p0 p1 p2 p3 p4 h = some (r, h')) : zW p l e R s m args below meth c D B0 5 (zEnd D B0 R below args s (zoV r) h') h 0 [(0, .ref p0), (1, .int p1), (2, .ref p2), (3, .int p3), (4, .int p4)] [] := by
  unfold f_J15_inflate_b0 at hf
  refine zr_aload_n C0 dJ15_inflate_0 rfl 0 rfl ?_
  refine zr_iload_n C0 dJ15_inflate_1 rfl 1 rfl ?_
  refine zr_aload_n C0 dJ15_inflate_2 rfl 2 rfl ?_
  refine zr_iload_n C0 dJ15_inflate_3 rfl 3 rfl ?_
  refine zr_iload C0 dJ15_inflate_4 4 rfl ?_
  obtain ⟨x3, h1, e2, hf⟩ := zbind2 hf
  refine zr_callS_r C0 cv_J15_240 (m_J10_inflate C0.2.2.2.2.2.2.1 e2) (by decide) (by decide) rfl rfl (Nat.le_of_ble_eq_true rfl) dJ15_inflate_6 rfl ?_
  refine zretW hf ?_
  exact zr_vret C0 rfl dJ15_inflate_9 rfl
def f_J15_inflate (E : zE) (p0 : Nat) (p1 : Int32) (p2 : Nat) (p3 : Int32) (p4 : Int32) (h : zH) : Option (Unit × zH) := f_J15_inflate_b0 E p0 p1 p2 p3 p4 h
theorem m_J15_inflate {l : Launch} (hst : l.stackTraces = false) {D : zD} {B0 : Nat} {E : zE} {p0 : Nat} {p1 : Int32} {p2 : Nat} {p3 : Int32} {p4 : Int32} {h h' : zH} {r : Unit} (hf : f_J15_inflate E p0 p1 p2 p3 p4 h = some (r, h')) : zMet l yJ15_inflate (ws_ yJ15_inflate cJ15_inflate 5 (Option.none : Option Jvm.ClassFile.FieldType)) 5 152 D B0 E [.ref p0, .int p1, .ref p2, .int p3, .int p4] h (zoV r) h' := by
  unfold f_J15_inflate at hf
  refine zMet_of hst (by decide +kernel) rfl rfl (Nat.le_of_ble_eq_true rfl) (fun p e R s m below meth c C0 hno => ?_)
  show zW _ _ _ _ _ _ _ _ _ _ _ _ _ _ _ _ [(0, .ref p0), (1, .int p1), (2, .ref p2), (3, .int p3), (4, .int p4)] []
  exact w_J15_inflate_b0 C0 hf
def f_J9_getBytes_b43 (E : zE) (h : zH) : Option (Unit × zH) :=
  some ((), h)
theorem w_J9_getBytes_b43 (C0 : zCx p l e R s m args below meth c D B0 4 "java/lang/String" cJ9_getBytes E 6 176 (Option.none : Option Jvm.ClassFile.FieldType) "getBytes") {r : Unit} {h' : zH} {h : zH} (hf : f_J9_getBytes_b43 E  h = some (r, h')) : zW p l e R s m args below meth c D B0 4 (zEnd D B0 R below args s (zoV r) h') h 43 [] [] := by
  unfold f_J9_getBytes_b43 at hf
  refine zretW hf ?_
  exact zr_vret C0 rfl dJ9_getBytes_43 rfl
def f_J9_getBytes_b0 (E : zE) (p0 : Nat) (p1 : Nat) (p2 : Int32) (p3 : Int32) (h : zH) : Option (Unit × zH) :=
  (cko h p0 19).bind fun _ =>
  bnd2 (f_J9_coder E p0 h) fun x4 h2 =>
  if x4 = p3 then (
    (gR h2 p0 19 0).bind fun x15 =>
    (gR h2 p0 19 0).bind fun x17 =>
    (lenA h2 x17).bind fun x19 =>
    (cpA h2 x15 (0 : Int32) p1 (p2 <<< (p3 &&& 31)) x19).bind fun h21 =>
    f_J9_getBytes_b43 E  h21
  ) else (
    (gR h2 p0 19 0).bind fun x6 =>
    (gR h2 p0 19 0).bind fun x8 =>
    (lenA h2 x8).bind fun x10 =>
    bnd2 (f_J15_inflate E x6 (0 : Int32) p1 p2 x10 h2) fun x14 h12 =>
    f_J9_getBytes_b43 E  h12
  )
theorem w_J9_getBytes_b0 (C0 : zCx p l e R s m args below meth c D B0 4 "java/lang/String" cJ9_getBytes E 6 176 (Option.none : Option Jvm.ClassFile.FieldType) "getBytes") {r : Unit} {h' : zH} {p0 : Nat} {p1 : Nat} {p2 : Int32} {p3 : Int32} {h : zH} (hf : f_J9_getBytes_b0 E p0 p1 p2 p3 h = some (r, h')) : zW p l e R s m args below meth c D B0 4 (zEnd D B0 R below args s (zoV r) h') h 0 [(0, .ref p0), (1, .ref p1), (2, .int p2), (3, .int p3)] [] := by
  unfold f_J9_getBytes_b0 at hf
  refine zr_aload_n C0 dJ9_getBytes_0 rfl 0 rfl ?_
  obtain ⟨_, e1, hf⟩ := zbind hf
  obtain ⟨x4, h2, e3, hf⟩ := zbind2 hf
  refine zr_callV_r C0 cv_J9_335_J9 rfl (zcko e1) (m_J9_coder C0.2.2.2.2.2.2.1 e3) (by decide) (by decide) rfl rfl (Nat.le_of_ble_eq_true rfl) dJ9_getBytes_1 rfl ?_
  refine zr_iload_n C0 dJ9_getBytes_4 rfl 3 rfl ?_
  refine zr_icmp_ne C0 (tgt := 28) dJ9_getBytes_5 (by decide) (fun c5 => ?_) (fun c5 => ?_)
  · have hf := zif_f c5 hf
    refine zr_aload_n C0 dJ9_getBytes_28 rfl 0 rfl ?_
    obtain ⟨x6, e7, hf⟩ := zbind hf
    refine zr_get C0 fl_J9_9_J9 dJ9_getBytes_29 (zgR e7) ?_
    refine zr_iconst C0 (v := 0) dJ9_getBytes_32 (by decide) ?_
    refine zr_aload_n C0 dJ9_getBytes_33 rfl 1 rfl ?_
    refine zr_iload_n C0 dJ9_getBytes_34 rfl 2 rfl ?_
    refine zr_aload_n C0 dJ9_getBytes_35 rfl 0 rfl ?_
    obtain ⟨x8, e9, hf⟩ := zbind hf
    refine zr_get C0 fl_J9_9_J9 dJ9_getBytes_36 (zgR e9) ?_
    obtain ⟨x10, e11, hf⟩ := zbind hf
    refine zr_alen C0 dJ9_getBytes_39 e11 ?_
    obtain ⟨x14, h12, e13, hf⟩ := zbind2 hf
    refine zr_callS_r C0 cv_J9_106 (m_J15_inflate C0.2.2.2.2.2.2.1 e13) (by decide) (by decide) rfl rfl (Nat.le_of_ble_eq_true rfl) dJ9_getBytes_40 rfl ?_
    refine zr_sub [] rfl ?_
    exact w_J9_getBytes_b43 C0 hf
  · have hf := zif_t c5 hf
    refine zr_aload_n C0 dJ9_getBytes_8 rfl 0 rfl ?_
    obtain ⟨x15, e16, hf⟩ := zbind hf
    refine zr_get C0 fl_J9_9_J9 dJ9_getBytes_9 (zgR e16) ?_
    refine zr_iconst C0 (v := 0) dJ9_getBytes_12 (by decide) ?_
    refine zr_aload_n C0 dJ9_getBytes_13 rfl 1 rfl ?_
    refine zr_iload_n C0 dJ9_getBytes_14 rfl 2 rfl ?_
    refine zr_iload_n C0 dJ9_getBytes_15 rfl 3 rfl ?_
    refine zr_ishl C0 dJ9_getBytes_16 ?_
    refine zr_aload_n C0 dJ9_getBytes_17 rfl 0 rfl ?_
    obtain ⟨x17, e18, hf⟩ := zbind hf
    refine zr_get C0 fl_J9_9_J9 dJ9_getBytes_18 (zgR e18) ?_
    obtain ⟨x19, e20, hf⟩ := zbind hf
    refine zr_alen C0 dJ9_getBytes_21 e20 ?_
    obtain ⟨h21, e22, hf⟩ := zbind hf
    refine zr_copy C0 q402 (by decide) (Nat.le_of_ble_eq_true rfl) dJ9_getBytes_22 e22 ?_
    refine zr_goto C0 (tgt := 43) dJ9_getBytes_25 (by decide) ?_
    refine zr_sub [] rfl ?_
    exact w_J9_getBytes_b43 C0 hf
def f_J9_getBytes (E : zE) (p0 : Nat) (p1 : Nat) (p2 : Int32) (p3 : Int32) (h : zH) : Option (Unit × zH) := f_J9_getBytes_b0 E p0 p1 p2 p3 h
theorem m_J9_getBytes {l : Launch} (hst : l.stackTraces = false) {D : zD} {B0 : Nat} {E : zE} {p0 : Nat} {p1 : Nat} {p2 : Int32} {p3 : Int32} {h h' : zH} {r : Unit} (hf : f_J9_getBytes E p0 p1 p2 p3 h = some (r, h')) : zMet l yJ9_getBytes (ws_ yJ9_getBytes cJ9_getBytes 4 (Option.none : Option Jvm.ClassFile.FieldType)) 6 176 D B0 E [.ref p0, .ref p1, .int p2, .int p3] h (zoV r) h' := by
  unfold f_J9_getBytes at hf
  refine zMet_of hst (by decide +kernel) rfl rfl (Nat.le_of_ble_eq_true rfl) (fun p e R s m below meth c C0 hno => ?_)
  show zW _ _ _ _ _ _ _ _ _ _ _ _ _ _ _ _ [(0, .ref p0), (1, .ref p1), (2, .int p2), (3, .int p3)] []
  exact w_J9_getBytes_b0 C0 hf
def f_J7_putStringAt_b0 (E : zE) (p0 : Nat) (p1 : Int32) (p2 : Nat) (h : zH) : Option (Unit × zH) :=
  (cko h p0 18).bind fun _ =>
  bnd2 (f_J7_inflateIfNeededFor E p0 p2 h) fun x4 h2 =>
  (gR h2 p0 18 0).bind fun x5 =>
  (gI h2 p0 18 1).bind fun x7 =>
  (cko h2 p2 19).bind fun _ =>
  bnd2 (f_J9_getBytes E p2 x5 p1 x7 h2) fun x12 h10 =>
  some ((), h10)
theorem w_J7_putStringAt_b0 (C0 : zCx p l e R s m args below meth c D B0 3 "java/lang/AbstractStringBuilder" cJ7_putStringAt E 7 199 (Option.none : Option Jvm.ClassFile.FieldType) "putStringAt") {r : Unit} {h' : zH} {p0 : Nat} {p1 : Int32} {p2 : Nat} {h : zH} (hf : f_J7_putStringAt_b0 E p0 p1 p2 h = some (r, h')) : zW p l e R s m args below meth c D B0 3 (zEnd D B0 R below args s (zoV r) h') h 0 [(0, .ref p0), (1, .int p1), (2, .ref p2)] [] := by
  unfold f_J7_putStringAt_b0 at hf
  refine zr_aload_n C0 dJ7_putStringAt_0 rfl 0 rfl ?_
  refine zr_aload_n C0 dJ7_putStringAt_1 rfl 2 rfl ?_
  obtain ⟨_, e1, hf⟩ := zbind hf
  obtain ⟨x4, h2, e3, hf⟩ := zbind2 hf
  refine zr_callO_r C0 cv_J7_397_J8 rfl (zcko e1) (m_J7_inflateIfNeededFor C0.2.2.2.2.2.2.1 e3) (by decide) (by decide) rfl rfl (Nat.le_of_ble_eq_true rfl) dJ7_putStringAt_2 rfl ?_
  refine zr_aload_n C0 dJ7_putStringAt_5 rfl 2 rfl ?_
  refine zr_aload_n C0 dJ7_putStringAt_6 rfl 0 rfl ?_
  obtain ⟨x5, e6, hf⟩ := zbind hf
  refine zr_get C0 fl_J7_15_J8 dJ7_putStringAt_7 (zgR e6) ?_
  refine zr_iload_n C0 dJ7_putStringAt_10 rfl 1 rfl ?_
  refine zr_aload_n C0 dJ7_putStringAt_11 rfl 0 rfl ?_
  obtain ⟨x7, e8, hf⟩ := zbind hf
  refine zr_get C0 fl_J7_22_J8 dJ7_putStringAt_12 (zgI e8) ?_
  obtain ⟨_, e9, hf⟩ := zbind hf
  obtain ⟨x12, h10, e11, hf⟩ := zbind2 hf
  refine zr_callV_r C0 cv_J7_399_J9 rfl (zcko e9) (m_J9_getBytes C0.2.2.2.2.2.2.1 e11) (by decide) (by decide) rfl rfl (Nat.le_of_ble_eq_true rfl) dJ7_putStringAt_15 rfl ?_
  refine zretW hf ?_
  exact zr_vret C0 rfl dJ7_putStringAt_18 rfl
def f_J7_putStringAt (E : zE) (p0 : Nat) (p1 : Int32) (p2 : Nat) (h : zH) : Option (Unit × zH) := f_J7_putStringAt_b0 E p0 p1 p2 h
theorem m_J7_putStringAt {l : Launch} (hst : l.stackTraces = false) {D : zD} {B0 : Nat} {E : zE} {p0 : Nat} {p1 : Int32} {p2 : Nat} {h h' : zH} {r : Unit} (hf : f_J7_putStringAt E p0 p1 p2 h = some (r, h')) : zMet l yJ7_putStringAt (ws_ yJ7_putStringAt cJ7_putStringAt 3 (Option.none : Option Jvm.ClassFile.FieldType)) 7 199 D B0 E [.ref p0, .int p1, .ref p2] h (zoV r) h' := by
  unfold f_J7_putStringAt at hf
  refine zMet_of hst (by decide +kernel) rfl rfl (Nat.le_of_ble_eq_true rfl) (fun p e R s m below meth c C0 hno => ?_)
  show zW _ _ _ _ _ _ _ _ _ _ _ _ _ _ _ _ [(0, .ref p0), (1, .int p1), (2, .ref p2)] []
  exact w_J7_putStringAt_b0 C0 hf
def f_J7_append_b0 (E : zE) (p0 : Nat) (p1 : Nat) (h : zH) : Option (Nat × zH) :=
  (cko h p1 19).bind fun _ =>
  bnd2 (f_J9_length E p1 h) fun x4 h2 =>
  (gI h2 p0 18 3).bind fun x5 =>
  (cko h2 p0 18).bind fun _ =>
  bnd2 (f_J7_ensureCapacityInternal E p0 (x5 + x4) h2) fun x10 h8 =>
  (gI h8 p0 18 3).bind fun x11 =>
  (cko h8 p0 18).bind fun _ =>
  bnd2 (f_J7_putStringAt E p0 x11 p1 h8) fun x16 h14 =>
  (gI h14 p0 18 3).bind fun x17 =>
  (pF h14 p0 18 3 (.int (x17 + x4))).bind fun h19 =>
  some (p0, h19)
theorem w_J7_append_b0 (C0 : zCx p l e R s m args below meth c D B0 3 "java/lang/AbstractStringBuilder" cJ7_append E 8 221 (Option.some (Jvm.ClassFile.FieldType.object "java/lang/AbstractStringBuilder")) "append") {r : Nat} {h' : zH} {p0 : Nat} {p1 : Nat} {h : zH} (hf : f_J7_append_b0 E p0 p1 h = some (r, h')) : zW p l e R s m args below meth c D B0 3 (zEnd D B0 R below args s (zoR r) h') h 0 [(0, .ref p0), (1, .ref p1)] [] := by
  unfold f_J7_append_b0 at hf
  refine zr_aload_n C0 dJ7_append_0 rfl 1 rfl ?_
  refine zr_ifnonnull C0 (r := some p1) (tgt := 9) dJ7_append_1 (by decide) (fun q9 q => ?_) (fun q => by cases q)
  refine zr_aload_n C0 dJ7_append_9 rfl 1 rfl ?_
  obtain ⟨_, e1, hf⟩ := zbind hf
  obtain ⟨x4, h2, e3, hf⟩ := zbind2 hf
  refine zr_callV_r C0 cv_J7_32_J9 rfl (zcko e1) (m_J9_length C0.2.2.2.2.2.2.1 e3) (by decide) (by decide) rfl rfl (Nat.le_of_ble_eq_true rfl) dJ7_append_10 rfl ?_
  refine zr_istore_n (i := 2) (lv' := [(2, .int x4), (0, .ref p0), (1, .ref p1)]) C0 dJ7_append_13 rfl (by decide) (by first | rfl | simp [zst1, zst2, zcat_rf]) ?_
  refine zr_aload_n C0 dJ7_append_14 rfl 1 rfl ?_
  refine zr_aload_n C0 dJ7_append_15 rfl 1 rfl ?_
  obtain ⟨x5, e6, hf⟩ := zbind hf
  refine zr_get C0 fl_J7_79_J8 dJ7_append_16 (zgI e6) ?_
  refine zr_iload_n C0 dJ7_append_19 rfl 0 rfl ?_
  refine zr_iadd C0 dJ7_append_20 ?_
  obtain ⟨_, e7, hf⟩ := zbind hf
  obtain ⟨x10, h8, e9, hf⟩ := zbind2 hf
  refine zr_callO_r C0 cv_J7_100_J8 rfl (zcko e7) (m_J7_ensureCapacityInternal C0.2.2.2.2.2.2.1 e9) (by decide) (by decide) rfl rfl (Nat.le_of_ble_eq_true rfl) dJ7_append_21 rfl ?_
  refine zr_aload_n C0 dJ7_append_24 rfl 1 rfl ?_
  refine zr_aload_n C0 dJ7_append_25 rfl 1 rfl ?_
  obtain ⟨x11, e12, hf⟩ := zbind hf
  refine zr_get C0 fl_J7_79_J8 dJ7_append_26 (zgI e12) ?_
  refine zr_aload_n C0 dJ7_append_29 rfl 2 rfl ?_
  obtain ⟨_, e13, hf⟩ := zbind hf
  obtain ⟨x16, h14, e15, hf⟩ := zbind2 hf
  refine zr_callO_r C0 cv_J7_208_J8 rfl (zcko e13) (m_J7_putStringAt C0.2.2.2.2.2.2.1 e15) (by decide) (by decide) rfl rfl (Nat.le_of_ble_eq_true rfl) dJ7_append_30 rfl ?_
  refine zr_aload_n C0 dJ7_append_33 rfl 1 rfl ?_
  refine zr_dup C0 dJ7_append_34 rfl ?_
  obtain ⟨x17, e18, hf⟩ := zbind hf
  refine zr_get C0 fl_J7_79_J8 dJ7_append_35 (zgI e18) ?_
  refine zr_iload_n C0 dJ7_append_38 rfl 0 rfl ?_
  refine zr_iadd C0 dJ7_append_39 ?_
  obtain ⟨h19, e20, hf⟩ := zbind hf
  refine zr_put C0 pl_J7_79_J8 dJ7_append_40 (fun h => by cases h) rfl rfl e20 ?_
  refine zr_aload_n C0 dJ7_append_43 rfl 1 rfl ?_
  refine zretW hf ?_
  exact zr_aret C0 rfl (Or.inl ⟨_, rfl⟩) dJ7_append_44 rfl
def f_J7_append (E : zE) (p0 : Nat) (p1 : Nat) (h : zH) : Option (Nat × zH) := f_J7_append_b0 E p0 p1 h
theorem m_J7_append {l : Launch} (hst : l.stackTraces = false) {D : zD} {B0 : Nat} {E : zE} {p0 : Nat} {p1 : Nat} {h h' : zH} {r : Nat} (hf : f_J7_append E p0 p1 h = some (r, h')) : zMet l yJ7_append (ws_ yJ7_append cJ7_append 3 (Option.some (Jvm.ClassFile.FieldType.object "java/lang/AbstractStringBuilder"))) 8 221 D B0 E [.ref p0, .ref p1] h (zoR r) h' := by
  unfold f_J7_append at hf
  refine zMet_of hst (by decide +kernel) rfl rfl (Nat.le_of_ble_eq_true rfl) (fun p e R s m below meth c C0 hno => ?_)
  show zW _ _ _ _ _ _ _ _ _ _ _ _ _ _ _ _ [(0, .ref p0), (1, .ref p1)] []
  exact w_J7_append_b0 C0 hf
def f_J8_append_b0 (E : zE) (p0 : Nat) (p1 : Nat) (h : zH) : Option (Nat × zH) :=
  (cko h p0 18).bind fun _ =>
  bnd2 (f_J7_append E p0 p1 h) fun x4 h2 =>
  some (p0, h2)
theorem w_J8_append_b0 (C0 : zCx p l e R s m args below meth c D B0 2 "java/lang/StringBuilder" cJ8_append E 9 243 (Option.some (Jvm.ClassFile.FieldType.object "java/lang/StringBuilder")) "append") {r : Nat} {h' : zH} {p0 : Nat} {p1 : Nat} {h : zH} (hf : f_J8_append_b0 E p0 p1 h = some (r, h')) : zW p l e R s m args below meth c D B0 2 (zEnd D B0 R below args s (zoR r) h') h 0 [(0, .ref p0), (1, .ref p1)] [] := by
  unfold f_J8_append_b0 at hf
  refine zr_aload_n C0 dJ8_append_0 rfl 0 rfl ?_
  refine zr_aload_n C0 dJ8_append_1 rfl 1 rfl ?_
  obtain ⟨_, e1, hf⟩ := zbind hf
  obtain ⟨x4, h2, e3, hf⟩ := zbind2 hf
  refine zr_callSU_r C0 cv_J8_29 rfl (zcko e1) (m_J7_append C0.2.2.2.2.2.2.1 e3) (by decide) (by decide) rfl rfl (Nat.le_of_ble_eq_true rfl) dJ8_append_2 rfl ?_
  refine zr_pop C0 dJ8_append_5 rfl ?_
  refine zr_aload_n C0 dJ8_append_6 rfl 0 rfl ?_
  refine zretW hf ?_
  exact zr_aret C0 rfl (Or.inl ⟨_, rfl⟩) dJ8_append_7 rfl
def f_J8_append (E : zE) (p0 : Nat) (p1 : Nat) (h : zH) : Option (Nat × zH) := f_J8_append_b0 E p0 p1 h
theorem m_J8_append {l : Launch} (hst : l.stackTraces = false) {D : zD} {B0 : Nat} {E : zE} {p0 : Nat} {p1 : Nat} {h h' : zH} {r : Nat} (hf : f_J8_append E p0 p1 h = some (r, h')) : zMet l yJ8_append (ws_ yJ8_append cJ8_append 2 (Option.some (Jvm.ClassFile.FieldType.object "java/lang/StringBuilder"))) 9 243 D B0 E [.ref p0, .ref p1] h (zoR r) h' := by
  unfold f_J8_append at hf
  refine zMet_of hst (by decide +kernel) rfl rfl (Nat.le_of_ble_eq_true rfl) (fun p e R s m below meth c C0 hno => ?_)
  show zW _ _ _ _ _ _ _ _ _ _ _ _ _ _ _ _ [(0, .ref p0), (1, .ref p1)] []
  exact w_J8_append_b0 C0 hf
def f_J12_abs_2_b12 (E : zE) (s0 : Int64) (h : zH) : Option (Int64 × zH) :=
  some (s0, h)
theorem w_J12_abs_2_b12 (C0 : zCx p l e R s m args below meth c D B0 2 "java/lang/Math" cJ12_abs_2 E 1 60 (Option.some Jvm.ClassFile.FieldType.long) "abs") {r : Int64} {h' : zH} {s0 : Int64} {h : zH} (hf : f_J12_abs_2_b12 E s0 h = some (r, h')) : zW p l e R s m args below meth c D B0 2 (zEnd D B0 R below args s (zoL r) h') h 12 [] [.long s0] := by
  unfold f_J12_abs_2_b12 at hf
  refine zretW hf ?_
  exact zr_lret C0 rfl dJ12_abs_2_12 rfl
def f_J12_abs_2_b0 (E : zE) (p0 : Int64) (h : zH) : Option (Int64 × zH) :=
  if (0 : Int64) ≤ p0 then (
    f_J12_abs_2_b12 E p0 h
  ) else (
    f_J12_abs_2_b12 E (-p0) h
  )
theorem w_J12_abs_2_b0 (C0 : zCx p l e R s m args below meth c D B0 2 "java/lang/Math" cJ12_abs_2 E 1 60 (Option.some Jvm.ClassFile.FieldType.long) "abs") {r : Int64} {h' : zH} {p0 : Int64} {h : zH} (hf : f_J12_abs_2_b0 E p0 h = some (r, h')) : zW p l e R s m args below meth c D B0 2 (zEnd D B0 R below args s (zoL r) h') h 0 [(0, .long p0)] [] := by
  unfold f_J12_abs_2_b0 at hf
  refine zr_lload_n C0 dJ12_abs_2_0 rfl 0 rfl ?_
  refine zr_lconst C0 (v := 0) dJ12_abs_2_1 (by decide) ?_
  refine zr_lcmp C0 dJ12_abs_2_2 ?_
  refine zr_if_ge C0 (tgt := 11) dJ12_abs_2_3 (by decide) (fun c1 => ?_) (fun c1 => ?_)
  · have hf := zif_t (zl_ge.mp c1) hf
    refine zr_lload_n C0 dJ12_abs_2_11 rfl 0 rfl ?_
    refine zr_sub [] rfl ?_
    exact w_J12_abs_2_b12 C0 hf
  · have hf := zif_f (zl_gen.mp c1) hf
    refine zr_lload_n C0 dJ12_abs_2_6 rfl 0 rfl ?_
    refine zr_lneg C0 dJ12_abs_2_7 ?_
    refine zr_goto C0 (tgt := 12) dJ12_abs_2_8 (by decide) ?_
    refine zr_sub [] rfl ?_
    exact w_J12_abs_2_b12 C0 hf
def f_J12_abs_2 (E : zE) (p0 : Int64) (h : zH) : Option (Int64 × zH) := f_J12_abs_2_b0 E p0 h
theorem m_J12_abs_2 {l : Launch} (hst : l.stackTraces = false) {D : zD} {B0 : Nat} {E : zE} {p0 : Int64} {h h' : zH} {r : Int64} (hf : f_J12_abs_2 E p0 h = some (r, h')) : zMet l yJ12_abs_2 (ws_ yJ12_abs_2 cJ12_abs_2 2 (Option.some Jvm.ClassFile.FieldType.long)) 1 60 D B0 E [.long p0] h (zoL r) h' := by
  unfold f_J12_abs_2 at hf
  refine zMet_ofF hst (by decide +kernel) rfl rfl (Nat.le_of_ble_eq_true rfl) (fun p e R s m below meth c C0 hno => ?_)
  show zW _ _ _ _ _ _ _ _ _ _ _ _ _ _ _ _ [(0, .long p0)] []
  exact w_J12_abs_2_b0 C0 hf
def f_J24_stringSize_l20 (E : zE) : Nat → Int64 → Int32 → Int64 → Int32 → zH → Option (Int32 × zH)
  | 0, _, _, _, _, _ => none
  | n + 1, p0, p2, p3, p5, h =>
    if (19 : Int32) ≤ p5 then (
      some (((19 : Int32) + p2), h)
    ) else (
      if p0 ≤ p3 then (
        f_J24_stringSize_l20 E n p0 p2 ((10 : Int64) * p3) (p5 + 1) h
      ) else (
        some ((p5 + p2), h)
      )
    )
theorem w_J24_stringSize_l20 (C0 : zCx p l e R s m args below meth c D B0 6 "java/lang/Long" cJ24_stringSize E 1 60 (Option.some Jvm.ClassFile.FieldType.int) "stringSize") {r : Int32} {h' : zH} : ∀ (n : Nat) (p0 : Int64) (p2 : Int32) (p3 : Int64) (p5 : Int32) (h : zH), f_J24_stringSize_l20 E n p0 p2 p3 p5 h = some (r, h') → zW p l e R s m args below meth c D B0 6 (zEnd D B0 R below args s (zoI r) h') h 20 [(0, .long p0), (2, .int p2), (3, .long p3), (5, .int p5)] [] := by
  intro n
  induction n with
  | zero =>
    intro p0 p2 p3 p5 h hf
    unfold f_J24_stringSize_l20 at hf
    cases hf
  | succ n ih =>
    intro p0 p2 p3 p5 h hf
    unfold f_J24_stringSize_l20 at hf
    refine zr_iload C0 dJ24_stringSize_20 3 rfl ?_
    refine zr_bipush C0 (v := 19) dJ24_stringSize_22 (by decide) ?_
    refine zr_icmp_ge C0 (tgt := 50) dJ24_stringSize_24 (by decide) (fun c1 => ?_) (fun c1 => ?_)
    · have hf := zif_t c1 hf
      refine zr_bipush C0 (v := 19) dJ24_stringSize_50 (by decide) ?_
      refine zr_iload_n C0 dJ24_stringSize_52 rfl 1 rfl ?_
      refine zr_iadd C0 dJ24_stringSize_53 ?_
      refine zretW hf ?_
      exact zr_iret C0 (ty := .int) rfl rfl dJ24_stringSize_54 rfl
    · have hf := zif_f c1 hf
      refine zr_lload_n C0 dJ24_stringSize_27 rfl 0 rfl ?_
      refine zr_lload_n C0 dJ24_stringSize_28 rfl 2 rfl ?_
      refine zr_lcmp C0 dJ24_stringSize_29 ?_
      refine zr_if_le C0 (tgt := 38) dJ24_stringSize_30 (by decide) (fun c2 => ?_) (fun c2 => ?_)
      · have hf := zif_t (zl_le.mp c2) hf
        refine zr_ldc2 C0 (v := 10) q2513 dJ24_stringSize_38 ?_
        refine zr_lload_n C0 dJ24_stringSize_41 rfl 2 rfl ?_
        refine zr_lmul C0 dJ24_stringSize_42 ?_
        refine zr_lstore_n (i := 3) (lv' := [(3, .long ((10 : Int64) * p3)), (0, .long p0), (2, .int p2), (5, .int p5)]) C0 dJ24_stringSize_43 rfl (by decide) (by first | rfl | simp [zst1, zst2, zcat_rf]) ?_
        refine zr_iinc (lv' := [(5, .int (p5 + 1)), (3, .long ((10 : Int64) * p3)), (0, .long p0), (2, .int p2)]) C0 dJ24_stringSize_44 3 rfl rfl (by decide) (by first | rfl | simp [zst1, zst2, zcat_rf]) ?_
        refine zr_goto C0 (tgt := 20) dJ24_stringSize_47 (by decide) ?_
        refine zr_sub [2, 3, 1, 0] rfl ?_
        exact ih _ _ _ _ _ hf
      · have hf := zif_f (zl_len.mp c2) hf
        refine zr_iload C0 dJ24_stringSize_33 3 rfl ?_
        refine zr_iload_n C0 dJ24_stringSize_35 rfl 1 rfl ?_
        refine zr_iadd C0 dJ24_stringSize_36 ?_
        refine zretW hf ?_
        exact zr_iret C0 (ty := .int) rfl rfl dJ24_stringSize_37 rfl
def f_J24_stringSize_b13 (E : zE) (p0 : Int64) (p2 : Int32) (h : zH) : Option (Int32 × zH) :=
  f_J24_stringSize_l20 E E.1 p0 p2 (-10 : Int64) (1 : Int32) h
theorem w_J24_stringSize_b13 (C0 : zCx p l e R s m args below meth c D B0 6 "java/lang/Long" cJ24_stringSize E 1 60 (Option.some Jvm.ClassFile.FieldType.int) "stringSize") {r : Int32} {h' : zH} {p0 : Int64} {p2 : Int32} {h : zH} (hf : f_J24_stringSize_b13 E p0 p2 h = some (r, h')) : zW p l e R s m args below meth c D B0 6 (zEnd D B0 R below args s (zoI r) h') h 13 [(0, .long p0), (2, .int p2)] [] := by
  unfold f_J24_stringSize_b13 at hf
  refine zr_ldc2 C0 (v := -10) q2512 dJ24_stringSize_13 ?_
  refine zr_lstore_n (i := 3) (lv' := [(3, .long (-10 : Int64)), (0, .long p0), (2, .int p2)]) C0 dJ24_stringSize_16 rfl (by decide) (by first | rfl | simp [zst1, zst2, zcat_rf]) ?_
  refine zr_iconst C0 (v := 1) dJ24_stringSize_17 (by decide) ?_
  refine zr_istore (i := 5) (lv' := [(5, .int (1 : Int32)), (3, .long (-10 : Int64)), (0, .long p0), (2, .int p2)]) C0 dJ24_stringSize_18 (by decide) (by first | rfl | simp [zst1, zst2, zcat_rf]) ?_
  refine zr_sub [2, 3, 1, 0] rfl ?_
  exact w_J24_stringSize_l20 C0 _ _ _ _ _ _ hf
def f_J24_stringSize_b0 (E : zE) (p0 : Int64) (h : zH) : Option (Int32 × zH) :=
  if p0 < (0 : Int64) then (
    f_J24_stringSize_b13 E p0 (1 : Int32) h
  ) else (
    f_J24_stringSize_b13 E (-p0) (0 : Int32) h
  )
theorem w_J24_stringSize_b0 (C0 : zCx p l e R s m args below meth c D B0 6 "java/lang/Long" cJ24_stringSize E 1 60 (Option.some Jvm.ClassFile.FieldType.int) "stringSize") {r : Int32} {h' : zH} {p0 : Int64} {h : zH} (hf : f_J24_stringSize_b0 E p0 h = some (r, h')) : zW p l e R s m args below meth c D B0 6 (zEnd D B0 R below args s (zoI r) h') h 0 [(0, .long p0)] [] := by
  unfold f_J24_stringSize_b0 at hf
  refine zr_iconst C0 (v := 1) dJ24_stringSize_0 (by decide) ?_
  refine zr_istore_n (i := 2) (lv' := [(2, .int (1 : Int32)), (0, .long p0)]) C0 dJ24_stringSize_1 rfl (by decide) (by first | rfl | simp [zst1, zst2, zcat_rf]) ?_
  refine zr_lload_n C0 dJ24_stringSize_2 rfl 1 rfl ?_
  refine zr_lconst C0 (v := 0) dJ24_stringSize_3 (by decide) ?_
  refine zr_lcmp C0 dJ24_stringSize_4 ?_
  refine zr_if_lt C0 (tgt := 13) dJ24_stringSize_5 (by decide) (fun c1 => ?_) (fun c1 => ?_)
  · have hf := zif_t (zl_lt.mp c1) hf
    refine zr_sub [1, 0] rfl ?_
    exact w_J24_stringSize_b13 C0 hf
  · have hf := zif_f (zl_ltn.mp c1) hf
    refine zr_iconst C0 (v := 0) dJ24_stringSize_8 (by decide) ?_
    refine zr_istore_n (i := 2) (lv' := [(2, .int (0 : Int32)), (0, .long p0)]) C0 dJ24_stringSize_9 rfl (by decide) (by first | rfl | simp [zst1, zst2, zcat_rf]) ?_
    refine zr_lload_n C0 dJ24_stringSize_10 rfl 1 rfl ?_
    refine zr_lneg C0 dJ24_stringSize_11 ?_
    refine zr_lstore_n (i := 0) (lv' := [(0, .long (-p0)), (2, .int (0 : Int32))]) C0 dJ24_stringSize_12 rfl (by decide) (by first | rfl | simp [zst1, zst2, zcat_rf]) ?_
    exact w_J24_stringSize_b13 C0 hf
def f_J24_stringSize (E : zE) (p0 : Int64) (h : zH) : Option (Int32 × zH) := f_J24_stringSize_b0 E p0 h
theorem m_J24_stringSize {l : Launch} (hst : l.stackTraces = false) {D : zD} {B0 : Nat} {E : zE} {p0 : Int64} {h h' : zH} {r : Int32} (hf : f_J24_stringSize E p0 h = some (r, h')) : zMet l yJ24_stringSize (ws_ yJ24_stringSize cJ24_stringSize 6 (Option.some Jvm.ClassFile.FieldType.int)) 1 60 D B0 E [.long p0] h (zoI r) h' := by
  unfold f_J24_stringSize at hf
  refine zMet_of hst (by decide +kernel) rfl rfl (Nat.le_of_ble_eq_true rfl) (fun p e R s m below meth c C0 hno => ?_)
  show zW _ _ _ _ _ _ _ _ _ _ _ _ _ _ _ _ [(0, .long p0)] []
  exact w_J24_stringSize_b0 C0 hf
def f_J14_checkFromToIndex_b14 (E : zE) (p0 : Int32) (p1 : Int32) (p2 : Int32) (p3 : Option Nat) (h : zH) : Option (Int32 × zH) :=
  none
theorem w_J14_checkFromToIndex_b14 (C0 : zCx p l e R s m args below meth c D B0 4 "jdk/internal/util/Preconditions" cJ14_checkFromToIndex E 1 60 (Option.some Jvm.ClassFile.FieldType.int) "checkFromToIndex") {r : Int32} {h' : zH} {p0 : Int32} {p1 : Int32} {p2 : Int32} {p3 : Option Nat} {h : zH} (hf : f_J14_checkFromToIndex_b14 E p0 p1 p2 p3 h = some (r, h')) : zW p l e R s m args below meth c D B0 4 (zEnd D B0 R below args s (zoI r) h') h 14 [(0, .int p0), (1, .int p1), (2, .int p2), (3, va_rf p3)] [] := by
  unfold f_J14_checkFromToIndex_b14 at hf
  refine zr_aload_nQ C0 dJ14_checkFromToIndex_14 rfl 3 rfl ?_
  refine zr_iload_n C0 dJ14_checkFromToIndex_15 rfl 0 rfl ?_
  refine zr_iload_n C0 dJ14_checkFromToIndex_16 rfl 1 rfl ?_
  refine zr_iload_n C0 dJ14_checkFromToIndex_17 rfl 2 rfl ?_
  cases hf
def f_J14_checkFromToIndex_b0 (E : zE) (p0 : Int32) (p1 : Int32) (p2 : Int32) (p3 : Option Nat) (h : zH) : Option (Int32 × zH) :=
  if p0 < 0 then (
    f_J14_checkFromToIndex_b14 E p0 p1 p2 p3 h
  ) else (
    if p1 < p0 then (
      f_J14_checkFromToIndex_b14 E p0 p1 p2 p3 h
    ) else (
      if p1 ≤ p2 then (
        some (p0, h)
      ) else (
        f_J14_checkFromToIndex_b14 E p0 p1 p2 p3 h
      )
    )
  )
theorem w_J14_checkFromToIndex_b0 (C0 : zCx p l e R s m args below meth c D B0 4 "jdk/internal/util/Preconditions" cJ14_checkFromToIndex E 1 60 (Option.some Jvm.ClassFile.FieldType.int) "checkFromToIndex") {r : Int32} {h' : zH} {p0 : Int32} {p1 : Int32} {p2 : Int32} {p3 : Option Nat} {h : zH} (hf : f_J14_checkFromToIndex_b0 E p0 p1 p2 p3 h = some (r, h')) : zW p l e R s m args below meth c D B0 4 (zEnd D B0 R below args s (zoI r) h') h 0 [(0, .int p0), (1, .int p1), (2, .int p2), (3, va_rf p3)] [] := by
  unfold f_J14_checkFromToIndex_b0 at hf
  refine zr_iload_n C0 dJ14_checkFromToIndex_0 rfl 0 rfl ?_
  refine zr_if_lt C0 (tgt := 14) dJ14_checkFromToIndex_1 (by decide) (fun c1 => ?_) (fun c1 => ?_)
  · have hf := zif_t c1 hf
    exact w_J14_checkFromToIndex_b14 C0 hf
  · have hf := zif_f c1 hf
    refine zr_iload_n C0 dJ14_checkFromToIndex_4 rfl 0 rfl ?_
    refine zr_iload_n C0 dJ14_checkFromToIndex_5 rfl 1 rfl ?_
    refine zr_icmp_gt C0 (tgt := 14) dJ14_checkFromToIndex_6 (by decide) (fun c2 => ?_) (fun c2 => ?_)
    · have hf := zif_t c2 hf
      exact w_J14_checkFromToIndex_b14 C0 hf
    · have hf := zif_f c2 hf
      refine zr_iload_n C0 dJ14_checkFromToIndex_9 rfl 1 rfl ?_
      refine zr_iload_n C0 dJ14_checkFromToIndex_10 rfl 2 rfl ?_
      refine zr_icmp_le C0 (tgt := 22) dJ14_checkFromToIndex_11 (by decide) (fun c3 => ?_) (fun c3 => ?_)
      · have hf := zif_t c3 hf
        refine zr_iload_n C0 dJ14_checkFromToIndex_22 rfl 0 rfl ?_
        refine zretW hf ?_
        exact zr_iret C0 (ty := .int) rfl rfl dJ14_checkFromToIndex_23 rfl
      · have hf := zif_f c3 hf
        exact w_J14_checkFromToIndex_b14 C0 hf
def f_J14_checkFromToIndex (E : zE) (p0 : Int32) (p1 : Int32) (p2 : Int32) (p3 : Option Nat) (h : zH) : Option (Int32 × zH) := f_J14_checkFromToIndex_b0 E p0 p1 p2 p3 h
theorem m_J14_checkFromToIndex {l : Launch} (hst : l.stackTraces = false) {D : zD} {B0 : Nat} {E : zE} {p0 : Int32} {p1 : Int32} {p2 : Int32} {p3 : Option Nat} {h h' : zH} {r : Int32} (hf : f_J14_checkFromToIndex E p0 p1 p2 p3 h = some (r, h')) : zMet l yJ14_checkFromToIndex (ws_ yJ14_checkFromToIndex cJ14_checkFromToIndex 4 (Option.some Jvm.ClassFile.FieldType.int)) 1 60 D B0 E [.int p0, .int p1, .int p2, va_rf p3] h (zoI r) h' := by
  unfold f_J14_checkFromToIndex at hf
  refine zMet_of hst (by decide +kernel) rfl rfl (by cases p3 <;> exact Nat.le_of_ble_eq_true rfl) (fun p e R s m below meth c C0 hno => ?_)
  rw [show lv_args 0 [.int p0, .int p1, .int p2, va_rf p3] = [(0, .int p0), (1, .int p1), (2, .int p2), (3, va_rf p3)] from (by cases p3 <;> rfl)]
  exact w_J14_checkFromToIndex_b0 C0 hf
def f_J9_checkBoundsBeginEnd_b0 (E : zE) (p0 : Int32) (p1 : Int32) (p2 : Int32) (h : zH) : Option (Unit × zH) :=
  bnd2 (f_J14_checkFromToIndex E p0 p1 p2 (E.2.2 10) h) fun x3 h1 =>
  some ((), h1)
theorem w_J9_checkBoundsBeginEnd_b0 (C0 : zCx p l e R s m args below meth c D B0 3 "java/lang/String" cJ9_checkBoundsBeginEnd E 2 83 (Option.none : Option Jvm.ClassFile.FieldType) "checkBoundsBeginEnd") {r : Unit} {h' : zH} {p0 : Int32} {p1 : Int32} {p2 : Int32} {h : zH} (hf : f_J9_checkBoundsBeginEnd_b0 E p0 p1 p2 h = some (r, h')) : zW p l e R s m args below meth c D B0 3 (zEnd D B0 R below args s (zoV r) h') h 0 [(0, .int p0), (1, .int p1), (2, .int p2)] [] := by
  unfold f_J9_checkBoundsBeginEnd_b0 at hf
  refine zr_iload_n C0 dJ9_checkBoundsBeginEnd_0 rfl 0 rfl ?_
  refine zr_iload_n C0 dJ9_checkBoundsBeginEnd_1 rfl 1 rfl ?_
  refine zr_iload_n C0 dJ9_checkBoundsBeginEnd_2 rfl 2 rfl ?_
  refine zr_gets C0 (C0.2.2.2.2.2.2.2.2.2.1.2.2.2.2.2.2.2.2.2.2.2.2.2.1 0 _ rfl) q347 dJ9_checkBoundsBeginEnd_3 ?_
  obtain ⟨x3, h1, e2, hf⟩ := zbind2 hf
  refine zr_callS_r C0 cv_J9_1062 (m_J14_checkFromToIndex C0.2.2.2.2.2.2.1 e2) (by decide) (by decide) rfl rfl (Nat.le_of_ble_eq_true rfl) dJ9_checkBoundsBeginEnd_6 rfl ?_
  refine zr_pop C0 dJ9_checkBoundsBeginEnd_9 rfl ?_
  refine zretW hf ?_
  exact zr_vret C0 rfl dJ9_checkBoundsBeginEnd_10 rfl
def f_J9_checkBoundsBeginEnd (E : zE) (p0 : Int32) (p1 : Int32) (p2 : Int32) (h : zH) : Option (Unit × zH) := f_J9_checkBoundsBeginEnd_b0 E p0 p1 p2 h
theorem m_J9_checkBoundsBeginEnd {l : Launch} (hst : l.stackTraces = false) {D : zD} {B0 : Nat} {E : zE} {p0 : Int32} {p1 : Int32} {p2 : Int32} {h h' : zH} {r : Unit} (hf : f_J9_checkBoundsBeginEnd E p0 p1 p2 h = some (r, h')) : zMet l yJ9_checkBoundsBeginEnd (ws_ yJ9_checkBoundsBeginEnd cJ9_checkBoundsBeginEnd 3 (Option.none : Option Jvm.ClassFile.FieldType)) 2 83 D B0 E [.int p0, .int p1, .int p2] h (zoV r) h' := by
  unfold f_J9_checkBoundsBeginEnd at hf
  refine zMet_of hst (by decide +kernel) rfl rfl (Nat.le_of_ble_eq_true rfl) (fun p e R s m below meth c C0 hno => ?_)
  show zW _ _ _ _ _ _ _ _ _ _ _ _ _ _ _ _ [(0, .int p0), (1, .int p1), (2, .int p2)] []
  exact w_J9_checkBoundsBeginEnd_b0 C0 hf
def f_J10_checkBoundsBeginEnd_b0 (E : zE) (p0 : Int32) (p1 : Int32) (p2 : Nat) (h : zH) : Option (Unit × zH) :=
  bnd2 (f_J10_length E p2 h) fun x3 h1 =>
  bnd2 (f_J9_checkBoundsBeginEnd E p0 p1 x3 h1) fun x6 h4 =>
  some ((), h4)
theorem w_J10_checkBoundsBeginEnd_b0 (C0 : zCx p l e R s m args below meth c D B0 3 "java/lang/StringUTF16" cJ10_checkBoundsBeginEnd E 3 105 (Option.none : Option Jvm.ClassFile.FieldType) "checkBoundsBeginEnd") {r : Unit} {h' : zH} {p0 : Int32} {p1 : Int32} {p2 : Nat} {h : zH} (hf : f_J10_checkBoundsBeginEnd_b0 E p0 p1 p2 h = some (r, h')) : zW p l e R s m args below meth c D B0 3 (zEnd D B0 R below args s (zoV r) h') h 0 [(0, .int p0), (1, .int p1), (2, .ref p2)] [] := by
  unfold f_J10_checkBoundsBeginEnd_b0 at hf
  refine zr_iload_n C0 dJ10_checkBoundsBeginEnd_0 rfl 0 rfl ?_
  refine zr_iload_n C0 dJ10_checkBoundsBeginEnd_1 rfl 1 rfl ?_
  refine zr_aload_n C0 dJ10_checkBoundsBeginEnd_2 rfl 2 rfl ?_
  obtain ⟨x3, h1, e2, hf⟩ := zbind2 hf
  refine zr_callS_r C0 cv_J10_48 (m_J10_length C0.2.2.2.2.2.2.1 e2) (by decide) (by decide) rfl rfl (Nat.le_of_ble_eq_true rfl) dJ10_checkBoundsBeginEnd_3 rfl ?_
  obtain ⟨x6, h4, e5, hf⟩ := zbind2 hf
  refine zr_callS_r C0 cv_J10_241 (m_J9_checkBoundsBeginEnd C0.2.2.2.2.2.2.1 e5) (by decide) (by decide) rfl rfl (Nat.le_of_ble_eq_true rfl) dJ10_checkBoundsBeginEnd_6 rfl ?_
  refine zretW hf ?_
  exact zr_vret C0 rfl dJ10_checkBoundsBeginEnd_9 rfl
def f_J10_checkBoundsBeginEnd (E : zE) (p0 : Int32) (p1 : Int32) (p2 : Nat) (h : zH) : Option (Unit × zH) := f_J10_checkBoundsBeginEnd_b0 E p0 p1 p2 h
theorem m_J10_checkBoundsBeginEnd {l : Launch} (hst : l.stackTraces = false) {D : zD} {B0 : Nat} {E : zE} {p0 : Int32} {p1 : Int32} {p2 : Nat} {h h' : zH} {r : Unit} (hf : f_J10_checkBoundsBeginEnd E p0 p1 p2 h = some (r, h')) : zMet l yJ10_checkBoundsBeginEnd (ws_ yJ10_checkBoundsBeginEnd cJ10_checkBoundsBeginEnd 3 (Option.none : Option Jvm.ClassFile.FieldType)) 3 105 D B0 E [.int p0, .int p1, .ref p2] h (zoV r) h' := by
  unfold f_J10_checkBoundsBeginEnd at hf
  refine zMet_of hst (by decide +kernel) rfl rfl (Nat.le_of_ble_eq_true rfl) (fun p e R s m below meth c C0 hno => ?_)
  show zW _ _ _ _ _ _ _ _ _ _ _ _ _ _ _ _ [(0, .int p0), (1, .int p1), (2, .ref p2)] []
  exact w_J10_checkBoundsBeginEnd_b0 C0 hf
def f_J10_getChars_4_b206 (E : zE) (p7 : Int32) (h : zH) : Option (Int32 × zH) :=
  some (p7, h)
theorem w_J10_getChars_4_b206 (C0 : zCx p l e R s m args below meth c D B0 11 "java/lang/StringUTF16" cJ10_getChars_4 E 2 82 (Option.some Jvm.ClassFile.FieldType.int) "getChars") {r : Int32} {h' : zH} {p7 : Int32} {h : zH} (hf : f_J10_getChars_4_b206 E p7 h = some (r, h')) : zW p l e R s m args below meth c D B0 11 (zEnd D B0 R below args s (zoI r) h') h 206 [(7, .int p7)] [] := by
  unfold f_J10_getChars_4_b206 at hf
  refine zr_iload C0 dJ10_getChars_4_206 0 rfl ?_
  refine zretW hf ?_
  exact zr_iret C0 (ty := .int) rfl rfl dJ10_getChars_4_208 rfl
def f_J10_getChars_4_b190 (E : zE) (p3 : Nat) (p7 : Int32) (p8 : Int32) (h : zH) : Option (Int32 × zH) :=
  if p8 = 0 then (
    f_J10_getChars_4_b206 E p7 h
  ) else (
    bnd2 (f_J10_putChar E p3 (p7 + (-1)) (45 : Int32) h) fun x4 h2 =>
    f_J10_getChars_4_b206 E (p7 + (-1)) h2
  )
theorem w_J10_getChars_4_b190 (C0 : zCx p l e R s m args below meth c D B0 11 "java/lang/StringUTF16" cJ10_getChars_4 E 2 82 (Option.some Jvm.ClassFile.FieldType.int) "getChars") {r : Int32} {h' : zH} {p3 : Nat} {p7 : Int32} {p8 : Int32} {h : zH} (hf : f_J10_getChars_4_b190 E p3 p7 p8 h = some (r, h')) : zW p l e R s m args below meth c D B0 11 (zEnd D B0 R below args s (zoI r) h') h 190 [(3, .ref p3), (7, .int p7), (8, .int p8)] [] := by
  unfold f_J10_getChars_4_b190 at hf
  refine zr_iload C0 dJ10_getChars_4_190 2 rfl ?_
  refine zr_if_eq C0 (tgt := 206) dJ10_getChars_4_192 (by decide) (fun c1 => ?_) (fun c1 => ?_)
  · have hf := zif_t c1 hf
    refine zr_sub [1] rfl ?_
    exact w_J10_getChars_4_b206 C0 hf
  · have hf := zif_f c1 hf
    refine zr_aload_n C0 dJ10_getChars_4_195 rfl 0 rfl ?_
    refine zr_iinc (lv' := [(7, .int (p7 + (-1))), (3, .ref p3), (8, .int p8)]) C0 dJ10_getChars_4_196 1 rfl rfl (by decide) (by first | rfl | simp [zst1, zst2, zcat_rf]) ?_
    refine zr_iload C0 dJ10_getChars_4_199 0 rfl ?_
    refine zr_bipush C0 (v := 45) dJ10_getChars_4_201 (by decide) ?_
    obtain ⟨x4, h2, e3, hf⟩ := zbind2 hf
    refine zr_callS_r C0 cv_J10_111 (m_J10_putChar C0.2.2.2.2.2.2.1 e3) (by decide) (by decide) rfl rfl (Nat.le_of_ble_eq_true rfl) dJ10_getChars_4_203 rfl ?_
    refine zr_sub [0] rfl ?_
    exact w_J10_getChars_4_b206 C0 hf
def f_J10_getChars_4_l90 (E : zE) : Nat → Nat → Int32 → Int32 → Int32 → zH → Option (Int32 × zH)
  | 0, _, _, _, _, _ => none
  | n + 1, p3, p7, p8, p10, h =>
    if (-100 : Int32) < p10 then (
      (dI h (E.2.1 103) 2 (-p10)).bind fun x2 =>
      bnd2 (f_J10_putChar E p3 (p7 + (-1)) x2 h) fun x6 h4 =>
      if (-9 : Int32) ≤ p10 then (
        f_J10_getChars_4_b190 E p3 (p7 + (-1)) p8 h4
      ) else (
        (dI h4 (E.2.1 102) 2 (-p10)).bind fun x8 =>
        bnd2 (f_J10_putChar E p3 ((p7 + (-1)) + (-1)) x8 h4) fun x12 h10 =>
        f_J10_getChars_4_b190 E p3 ((p7 + (-1)) + (-1)) p8 h10
      )
    ) else (
      (dI h (E.2.1 103) 2 (((p10 / (100 : Int32)) * (100 : Int32)) - p10)).bind fun x13 =>
      bnd2 (f_J10_putChar E p3 (p7 + (-1)) x13 h) fun x17 h15 =>
      (dI h15 (E.2.1 102) 2 (((p10 / (100 : Int32)) * (100 : Int32)) - p10)).bind fun x18 =>
      bnd2 (f_J10_putChar E p3 ((p7 + (-1)) + (-1)) x18 h15) fun x22 h20 =>
      f_J10_getChars_4_l90 E n p3 ((p7 + (-1)) + (-1)) p8 (p10 / (100 : Int32)) h20
    )
theorem w_J10_getChars_4_l90 (C0 : zCx p l e R s m args below meth c D B0 11 "java/lang/StringUTF16" cJ10_getChars_4 E 2 82 (Option.some Jvm.ClassFile.FieldType.int) "getChars") {r : Int32} {h' : zH} : ∀ (n : Nat) (p3 : Nat) (p7 : Int32) (p8 : Int32) (p10 : Int32) (h : zH), f_J10_getChars_4_l90 E n p3 p7 p8 p10 h = some (r, h') → zW p l e R s m args below meth c D B0 11 (zEnd D B0 R below args s (zoI r) h') h 90 [(3, .ref p3), (7, .int p7), (8, .int p8), (10, .int p10)] [] := by
  intro n
  induction n with
  | zero =>
    intro p3 p7 p8 p10 h hf
    unfold f_J10_getChars_4_l90 at hf
    cases hf
  | succ n ih =>
    intro p3 p7 p8 p10 h hf
    unfold f_J10_getChars_4_l90 at hf
    refine zr_iload C0 dJ10_getChars_4_90 3 rfl ?_
    refine zr_bipush C0 (v := -100) dJ10_getChars_4_92 (by decide) ?_
    refine zr_icmp_gt C0 (tgt := 151) dJ10_getChars_4_94 (by decide) (fun c1 => ?_) (fun c1 => ?_)
    · have hf := zif_t c1 hf
      refine zr_aload_n C0 dJ10_getChars_4_151 rfl 0 rfl ?_
      refine zr_iinc (lv' := [(7, .int (p7 + (-1))), (3, .ref p3), (8, .int p8), (10, .int p10)]) C0 dJ10_getChars_4_152 1 rfl rfl (by decide) (by first | rfl | simp [zst1, zst2, zcat_rf]) ?_
      refine zr_iload C0 dJ10_getChars_4_155 0 rfl ?_
      refine zr_gets C0 C0.2.2.2.2.2.2.2.2.2.1.2.2.2.2.2.2.2.2.2.2.2.1 q427 dJ10_getChars_4_157 ?_
      refine zr_iload C0 dJ10_getChars_4_160 3 rfl ?_
      refine zr_ineg C0 dJ10_getChars_4_162 ?_
      obtain ⟨x2, e3, hf⟩ := zbind hf
      refine zr_bald C0 dJ10_getChars_4_163 e3 ?_
      obtain ⟨x6, h4, e5, hf⟩ := zbind2 hf
      refine zr_callS_r C0 cv_J10_111 (m_J10_putChar C0.2.2.2.2.2.2.1 e5) (by decide) (by decide) rfl rfl (Nat.le_of_ble_eq_true rfl) dJ10_getChars_4_164 rfl ?_
      refine zr_iload C0 dJ10_getChars_4_167 3 rfl ?_
      refine zr_bipush C0 (v := -9) dJ10_getChars_4_169 (by decide) ?_
      refine zr_icmp_ge C0 (tgt := 190) dJ10_getChars_4_171 (by decide) (fun c7 => ?_) (fun c7 => ?_)
      · have hf := zif_t c7 hf
        refine zr_sub [1, 0, 2] rfl ?_
        exact w_J10_getChars_4_b190 C0 hf
      · have hf := zif_f c7 hf
        refine zr_aload_n C0 dJ10_getChars_4_174 rfl 1 rfl ?_
        refine zr_iinc (lv' := [(7, .int ((p7 + (-1)) + (-1))), (3, .ref p3), (8, .int p8), (10, .int p10)]) C0 dJ10_getChars_4_175 0 rfl rfl (by decide) (by first | rfl | simp [zst1, zst2, zcat_rf]) ?_
        refine zr_iload C0 dJ10_getChars_4_178 0 rfl ?_
        refine zr_gets C0 C0.2.2.2.2.2.2.2.2.2.1.2.2.2.2.2.2.2.2.2.2.1 q428 dJ10_getChars_4_180 ?_
        refine zr_iload C0 dJ10_getChars_4_183 3 rfl ?_
        refine zr_ineg C0 dJ10_getChars_4_185 ?_
        obtain ⟨x8, e9, hf⟩ := zbind hf
        refine zr_bald C0 dJ10_getChars_4_186 e9 ?_
        obtain ⟨x12, h10, e11, hf⟩ := zbind2 hf
        refine zr_callS_r C0 cv_J10_111 (m_J10_putChar C0.2.2.2.2.2.2.1 e11) (by decide) (by decide) rfl rfl (Nat.le_of_ble_eq_true rfl) dJ10_getChars_4_187 rfl ?_
        refine zr_sub [1, 0, 2] rfl ?_
        exact w_J10_getChars_4_b190 C0 hf
    · have hf := zif_f c1 hf
      refine zr_iload C0 dJ10_getChars_4_97 3 rfl ?_
      refine zr_bipush C0 (v := 100) dJ10_getChars_4_99 (by decide) ?_
      refine zr_idiv C0 dJ10_getChars_4_101 (by decide) ?_
      refine zr_istore (i := 9) (lv' := [(9, .int (p10 / (100 : Int32))), (3, .ref p3), (7, .int p7), (8, .int p8), (10, .int p10)]) C0 dJ10_getChars_4_102 (by decide) (by first | rfl | simp [zst1, zst2, zcat_rf]) ?_
      refine zr_iload C0 dJ10_getChars_4_104 0 rfl ?_
      refine zr_bipush C0 (v := 100) dJ10_getChars_4_106 (by decide) ?_
      refine zr_imul C0 dJ10_getChars_4_108 ?_
      refine zr_iload C0 dJ10_getChars_4_109 4 rfl ?_
      refine zr_isub C0 dJ10_getChars_4_111 ?_
      refine zr_istore (i := 6) (lv' := [(6, .int (((p10 / (100 : Int32)) * (100 : Int32)) - p10)), (9, .int (p10 / (100 : Int32))), (3, .ref p3), (7, .int p7), (8, .int p8), (10, .int p10)]) C0 dJ10_getChars_4_112 (by decide) (by first | rfl | simp [zst1, zst2, zcat_rf]) ?_
      refine zr_iload C0 dJ10_getChars_4_114 1 rfl ?_
      refine zr_istore (i := 10) (lv' := [(10, .int (p10 / (100 : Int32))), (6, .int (((p10 / (100 : Int32)) * (100 : Int32)) - p10)), (9, .int (p10 / (100 : Int32))), (3, .ref p3), (7, .int p7), (8, .int p8)]) C0 dJ10_getChars_4_116 (by decide) (by first | rfl | simp [zst1, zst2, zcat_rf]) ?_
      refine zr_aload_n C0 dJ10_getChars_4_118 rfl 3 rfl ?_
      refine zr_iinc (lv' := [(7, .int (p7 + (-1))), (10, .int (p10 / (100 : Int32))), (6, .int (((p10 / (100 : Int32)) * (100 : Int32)) - p10)), (9, .int (p10 / (100 : Int32))), (3, .ref p3), (8, .int p8)]) C0 dJ10_getChars_4_119 4 rfl rfl (by decide) (by first | rfl | simp [zst1, zst2, zcat_rf]) ?_
      refine zr_iload C0 dJ10_getChars_4_122 0 rfl ?_
      refine zr_gets C0 C0.2.2.2.2.2.2.2.2.2.1.2.2.2.2.2.2.2.2.2.2.2.1 q427 dJ10_getChars_4_124 ?_
      refine zr_iload C0 dJ10_getChars_4_127 2 rfl ?_
      obtain ⟨x13, e14, hf⟩ := zbind hf
      refine zr_bald C0 dJ10_getChars_4_129 e14 ?_
      obtain ⟨x17, h15, e16, hf⟩ := zbind2 hf
      refine zr_callS_r C0 cv_J10_111 (m_J10_putChar C0.2.2.2.2.2.2.1 e16) (by decide) (by decide) rfl rfl (Nat.le_of_ble_eq_true rfl) dJ10_getChars_4_130 rfl ?_
      refine zr_aload_n C0 dJ10_getChars_4_133 rfl 4 rfl ?_
      refine zr_iinc (lv' := [(7, .int ((p7 + (-1)) + (-1))), (10, .int (p10 / (100 : Int32))), (6, .int (((p10 / (100 : Int32)) * (100 : Int32)) - p10)), (9, .int (p10 / (100 : Int32))), (3, .ref p3), (8, .int p8)]) C0 dJ10_getChars_4_134 0 rfl rfl (by decide) (by first | rfl | simp [zst1, zst2, zcat_rf]) ?_
      refine zr_iload C0 dJ10_getChars_4_137 0 rfl ?_
      refine zr_gets C0 C0.2.2.2.2.2.2.2.2.2.1.2.2.2.2.2.2.2.2.2.2.1 q428 dJ10_getChars_4_139 ?_
      refine zr_iload C0 dJ10_getChars_4_142 2 rfl ?_
      obtain ⟨x18, e19, hf⟩ := zbind hf
      refine zr_bald C0 dJ10_getChars_4_144 e19 ?_
      obtain ⟨x22, h20, e21, hf⟩ := zbind2 hf
      refine zr_callS_r C0 cv_J10_111 (m_J10_putChar C0.2.2.2.2.2.2.1 e21) (by decide) (by decide) rfl rfl (Nat.le_of_ble_eq_true rfl) dJ10_getChars_4_145 rfl ?_
      refine zr_goto C0 (tgt := 90) dJ10_getChars_4_148 (by decide) ?_
      refine zr_sub [4, 0, 5, 1] rfl ?_
      exact ih _ _ _ _ _ hf
def f_J10_getChars_4_l24 (E : zE) : Nat → Int64 → Nat → Int32 → Int32 → zH → Option (Int32 × zH)
  | 0, _, _, _, _, _ => none
  | n + 1, p0, p3, p7, p8, h =>
    if (-2147483648 : Int64) < p0 then (
      f_J10_getChars_4_l90 E E.1 p3 p7 p8 (p0.toInt32) h
    ) else (
      (dI h (E.2.1 103) 2 ((((p0 / (100 : Int64)) * (100 : Int64)) - p0).toInt32)).bind fun x2 =>
      bnd2 (f_J10_putChar E p3 (p7 + (-1)) x2 h) fun x6 h4 =>
      (dI h4 (E.2.1 102) 2 ((((p0 / (100 : Int64)) * (100 : Int64)) - p0).toInt32)).bind fun x7 =>
      bnd2 (f_J10_putChar E p3 ((p7 + (-1)) + (-1)) x7 h4) fun x11 h9 =>
      f_J10_getChars_4_l24 E n (p0 / (100 : Int64)) p3 ((p7 + (-1)) + (-1)) p8 h9
    )
theorem w_J10_getChars_4_l24 (C0 : zCx p l e R s m args below meth c D B0 11 "java/lang/StringUTF16" cJ10_getChars_4 E 2 82 (Option.some Jvm.ClassFile.FieldType.int) "getChars") {r : Int32} {h' : zH} : ∀ (n : Nat) (p0 : Int64) (p3 : Nat) (p7 : Int32) (p8 : Int32) (h : zH), f_J10_getChars_4_l24 E n p0 p3 p7 p8 h = some (r, h') → zW p l e R s m args below meth c D B0 11 (zEnd D B0 R below args s (zoI r) h') h 24 [(0, .long p0), (3, .ref p3), (7, .int p7), (8, .int p8)] [] := by
  intro n
  induction n with
  | zero =>
    intro p0 p3 p7 p8 h hf
    unfold f_J10_getChars_4_l24 at hf
    cases hf
  | succ n ih =>
    intro p0 p3 p7 p8 h hf
    unfold f_J10_getChars_4_l24 at hf
    refine zr_lload_n C0 dJ10_getChars_4_24 rfl 0 rfl ?_
    refine zr_ldc2 C0 (v := -2147483648) q2527 dJ10_getChars_4_25 ?_
    refine zr_lcmp C0 dJ10_getChars_4_28 ?_
    refine zr_if_gt C0 (tgt := 86) dJ10_getChars_4_29 (by decide) (fun c1 => ?_) (fun c1 => ?_)
    · have hf := zif_t (zl_gt.mp c1) hf
      refine zr_lload_n C0 dJ10_getChars_4_86 rfl 0 rfl ?_
      refine zr_l2i C0 dJ10_getChars_4_87 ?_
      refine zr_istore (i := 10) (lv' := [(10, .int (p0.toInt32)), (0, .long p0), (3, .ref p3), (7, .int p7), (8, .int p8)]) C0 dJ10_getChars_4_88 (by decide) (by first | rfl | simp [zst1, zst2, zcat_rf]) ?_
      refine zr_sub [2, 3, 4, 0] rfl ?_
      exact w_J10_getChars_4_l90 C0 _ _ _ _ _ _ hf
    · have hf := zif_f (zl_gtn.mp c1) hf
      refine zr_lload_n C0 dJ10_getChars_4_32 rfl 0 rfl ?_
      refine zr_ldc2 C0 (v := 100) q2528 dJ10_getChars_4_33 ?_
      refine zr_ldiv C0 dJ10_getChars_4_36 (by decide) ?_
      refine zr_lstore (i := 4) (lv' := [(4, .long (p0 / (100 : Int64))), (0, .long p0), (3, .ref p3), (7, .int p7), (8, .int p8)]) C0 dJ10_getChars_4_37 (by decide) (by first | rfl | simp [zst1, zst2, zcat_rf]) ?_
      refine zr_lload C0 dJ10_getChars_4_39 0 rfl ?_
      refine zr_ldc2 C0 (v := 100) q2528 dJ10_getChars_4_41 ?_
      refine zr_lmul C0 dJ10_getChars_4_44 ?_
      refine zr_lload_n C0 dJ10_getChars_4_45 rfl 1 rfl ?_
      refine zr_lsub C0 dJ10_getChars_4_46 ?_
      refine zr_l2i C0 dJ10_getChars_4_47 ?_
      refine zr_istore (i := 6) (lv' := [(6, .int ((((p0 / (100 : Int64)) * (100 : Int64)) - p0).toInt32)), (4, .long (p0 / (100 : Int64))), (0, .long p0), (3, .ref p3), (7, .int p7), (8, .int p8)]) C0 dJ10_getChars_4_48 (by decide) (by first | rfl | simp [zst1, zst2, zcat_rf]) ?_
      refine zr_lload C0 dJ10_getChars_4_50 1 rfl ?_
      refine zr_lstore_n (i := 0) (lv' := [(0, .long (p0 / (100 : Int64))), (6, .int ((((p0 / (100 : Int64)) * (100 : Int64)) - p0).toInt32)), (4, .long (p0 / (100 : Int64))), (3, .ref p3), (7, .int p7), (8, .int p8)]) C0 dJ10_getChars_4_52 rfl (by decide) (by first | rfl | simp [zst1, zst2, zcat_rf]) ?_
      refine zr_aload_n C0 dJ10_getChars_4_53 rfl 3 rfl ?_
      refine zr_iinc (lv' := [(7, .int (p7 + (-1))), (0, .long (p0 / (100 : Int64))), (6, .int ((((p0 / (100 : Int64)) * (100 : Int64)) - p0).toInt32)), (4, .long (p0 / (100 : Int64))), (3, .ref p3), (8, .int p8)]) C0 dJ10_getChars_4_54 4 rfl rfl (by decide) (by first | rfl | simp [zst1, zst2, zcat_rf]) ?_
      refine zr_iload C0 dJ10_getChars_4_57 0 rfl ?_
      refine zr_gets C0 C0.2.2.2.2.2.2.2.2.2.1.2.2.2.2.2.2.2.2.2.2.2.1 q427 dJ10_getChars_4_59 ?_
      refine zr_iload C0 dJ10_getChars_4_62 2 rfl ?_
      obtain ⟨x2, e3, hf⟩ := zbind hf
      refine zr_bald C0 dJ10_getChars_4_64 e3 ?_
      obtain ⟨x6, h4, e5, hf⟩ := zbind2 hf
      refine zr_callS_r C0 cv_J10_111 (m_J10_putChar C0.2.2.2.2.2.2.1 e5) (by decide) (by decide) rfl rfl (Nat.le_of_ble_eq_true rfl) dJ10_getChars_4_65 rfl ?_
      refine zr_aload_n C0 dJ10_getChars_4_68 rfl 4 rfl ?_
      refine zr_iinc (lv' := [(7, .int ((p7 + (-1)) + (-1))), (0, .long (p0 / (100 : Int64))), (6, .int ((((p0 / (100 : Int64)) * (100 : Int64)) - p0).toInt32)), (4, .long (p0 / (100 : Int64))), (3, .ref p3), (8, .int p8)]) C0 dJ10_getChars_4_69 0 rfl rfl (by decide) (by first | rfl | simp [zst1, zst2, zcat_rf]) ?_
      refine zr_iload C0 dJ10_getChars_4_72 0 rfl ?_
      refine zr_gets C0 C0.2.2.2.2.2.2.2.2.2.1.2.2.2.2.2.2.2.2.2.2.1 q428 dJ10_getChars_4_74 ?_
      refine zr_iload C0 dJ10_getChars_4_77 2 rfl ?_
      obtain ⟨x7, e8, hf⟩ := zbind hf
      refine zr_bald C0 dJ10_getChars_4_79 e8 ?_
      obtain ⟨x11, h9, e10, hf⟩ := zbind2 hf
      refine zr_callS_r C0 cv_J10_111 (m_J10_putChar C0.2.2.2.2.2.2.1 e10) (by decide) (by decide) rfl rfl (Nat.le_of_ble_eq_true rfl) dJ10_getChars_4_80 rfl ?_
      refine zr_goto C0 (tgt := 24) dJ10_getChars_4_83 (by decide) ?_
      refine zr_sub [1, 4, 0, 5] rfl ?_
      exact ih _ _ _ _ _ hf
def f_J10_getChars_4_b14 (E : zE) (p0 : Int64) (p3 : Nat) (p7 : Int32) (s0 : Int32) (h : zH) : Option (Int32 × zH) :=
  if s0 = 0 then (
    f_J10_getChars_4_l24 E E.1 (-p0) p3 p7 s0 h
  ) else (
    f_J10_getChars_4_l24 E E.1 p0 p3 p7 s0 h
  )
theorem w_J10_getChars_4_b14 (C0 : zCx p l e R s m args below meth c D B0 11 "java/lang/StringUTF16" cJ10_getChars_4 E 2 82 (Option.some Jvm.ClassFile.FieldType.int) "getChars") {r : Int32} {h' : zH} {p0 : Int64} {p3 : Nat} {p7 : Int32} {s0 : Int32} {h : zH} (hf : f_J10_getChars_4_b14 E p0 p3 p7 s0 h = some (r, h')) : zW p l e R s m args below meth c D B0 11 (zEnd D B0 R below args s (zoI r) h') h 14 [(0, .long p0), (3, .ref p3), (7, .int p7)] [.int s0] := by
  unfold f_J10_getChars_4_b14 at hf
  refine zr_istore (i := 8) (lv' := [(8, .int s0), (0, .long p0), (3, .ref p3), (7, .int p7)]) C0 dJ10_getChars_4_14 (by decide) (by first | rfl | simp [zst1, zst2, zcat_rf]) ?_
  refine zr_iload C0 dJ10_getChars_4_16 0 rfl ?_
  refine zr_if_ne C0 (tgt := 24) dJ10_getChars_4_18 (by decide) (fun c1 => ?_) (fun c1 => ?_)
  · have hf := zif_f c1 hf
    refine zr_sub [1, 2, 3, 0] rfl ?_
    exact w_J10_getChars_4_l24 C0 _ _ _ _ _ _ hf
  · have hf := zif_t c1 hf
    refine zr_lload_n C0 dJ10_getChars_4_21 rfl 1 rfl ?_
    refine zr_lneg C0 dJ10_getChars_4_22 ?_
    refine zr_lstore_n (i := 0) (lv' := [(0, .long (-p0)), (8, .int s0), (3, .ref p3), (7, .int p7)]) C0 dJ10_getChars_4_23 rfl (by decide) (by first | rfl | simp [zst1, zst2, zcat_rf]) ?_
    refine zr_sub [0, 2, 3, 1] rfl ?_
    exact w_J10_getChars_4_l24 C0 _ _ _ _ _ _ hf
def f_J10_getChars_4_b0 (E : zE) (p0 : Int64) (p2 : Int32) (p3 : Nat) (h : zH) : Option (Int32 × zH) :=
  if (0 : Int64) ≤ p0 then (
    f_J10_getChars_4_b14 E p0 p3 p2 (0 : Int32) h
  ) else (
    f_J10_getChars_4_b14 E p0 p3 p2 (1 : Int32) h
  )
theorem w_J10_getChars_4_b0 (C0 : zCx p l e R s m args below meth c D B0 11 "java/lang/StringUTF16" cJ10_getChars_4 E 2 82 (Option.some Jvm.ClassFile.FieldType.int) "getChars") {r : Int32} {h' : zH} {p0 : Int64} {p2 : Int32} {p3 : Nat} {h : zH} (hf : f_J10_getChars_4_b0 E p0 p2 p3 h = some (r, h')) : zW p l e R s m args below meth c D B0 11 (zEnd D B0 R below args s (zoI r) h') h 0 [(0, .long p0), (2, .int p2), (3, .ref p3)] [] := by
  unfold f_J10_getChars_4_b0 at hf
  refine zr_iload_n C0 dJ10_getChars_4_0 rfl 1 rfl ?_
  refine zr_istore (i := 7) (lv' := [(7, .int p2), (0, .long p0), (2, .int p2), (3, .ref p3)]) C0 dJ10_getChars_4_1 (by decide) (by first | rfl | simp [zst1, zst2, zcat_rf]) ?_
  refine zr_lload_n C0 dJ10_getChars_4_3 rfl 1 rfl ?_
  refine zr_lconst C0 (v := 0) dJ10_getChars_4_4 (by decide) ?_
  refine zr_lcmp C0 dJ10_getChars_4_5 ?_
  refine zr_if_ge C0 (tgt := 13) dJ10_getChars_4_6 (by decide) (fun c1 => ?_) (fun c1 => ?_)
  · have hf := zif_t (zl_ge.mp c1) hf
    refine zr_iconst C0 (v := 0) dJ10_getChars_4_13 (by decide) ?_
    refine zr_sub [1, 3, 0] rfl ?_
    exact w_J10_getChars_4_b14 C0 hf
  · have hf := zif_f (zl_gen.mp c1) hf
    refine zr_iconst C0 (v := 1) dJ10_getChars_4_9 (by decide) ?_
    refine zr_goto C0 (tgt := 14) dJ10_getChars_4_10 (by decide) ?_
    refine zr_sub [1, 3, 0] rfl ?_
    exact w_J10_getChars_4_b14 C0 hf
def f_J10_getChars_4 (E : zE) (p0 : Int64) (p2 : Int32) (p3 : Nat) (h : zH) : Option (Int32 × zH) := f_J10_getChars_4_b0 E p0 p2 p3 h
theorem m_J10_getChars_4 {l : Launch} (hst : l.stackTraces = false) {D : zD} {B0 : Nat} {E : zE} {p0 : Int64} {p2 : Int32} {p3 : Nat} {h h' : zH} {r : Int32} (hf : f_J10_getChars_4 E p0 p2 p3 h = some (r, h')) : zMet l yJ10_getChars_4 (ws_ yJ10_getChars_4 cJ10_getChars_4 11 (Option.some Jvm.ClassFile.FieldType.int)) 2 82 D B0 E [.long p0, .int p2, .ref p3] h (zoI r) h' := by
  unfold f_J10_getChars_4 at hf
  refine zMet_of hst (by decide +kernel) rfl rfl (Nat.le_of_ble_eq_true rfl) (fun p e R s m below meth c C0 hno => ?_)
  show zW _ _ _ _ _ _ _ _ _ _ _ _ _ _ _ _ [(0, .long p0), (2, .int p2), (3, .ref p3)] []
  exact w_J10_getChars_4_b0 C0 hf
def f_J10_getChars_3_b0 (E : zE) (p0 : Int64) (p2 : Int32) (p3 : Int32) (p4 : Nat) (h : zH) : Option (Int32 × zH) :=
  bnd2 (f_J10_checkBoundsBeginEnd E p2 p3 p4 h) fun x3 h1 =>
  bnd2 (f_J10_getChars_4 E p0 p3 p4 h1) fun x6 h4 =>
  none
theorem w_J10_getChars_3_b0 (C0 : zCx p l e R s m args below meth c D B0 6 "java/lang/StringUTF16" cJ10_getChars_3 E 4 127 (Option.some Jvm.ClassFile.FieldType.int) "getChars") {r : Int32} {h' : zH} {p0 : Int64} {p2 : Int32} {p3 : Int32} {p4 : Nat} {h : zH} (hf : f_J10_getChars_3_b0 E p0 p2 p3 p4 h = some (r, h')) : zW p l e R s m args below meth c D B0 6 (zEnd D B0 R below args s (zoI r) h') h 0 [(0, .long p0), (2, .int p2), (3, .int p3), (4, .ref p4)] [] := by
  unfold f_J10_getChars_3_b0 at hf
  refine zr_iload_n C0 dJ10_getChars_3_0 rfl 1 rfl ?_
  refine zr_iload_n C0 dJ10_getChars_3_1 rfl 2 rfl ?_
  refine zr_aload C0 dJ10_getChars_3_2 3 rfl ?_
  obtain ⟨x3, h1, e2, hf⟩ := zbind2 hf
  refine zr_callS_r C0 cv_J10_96 (m_J10_checkBoundsBeginEnd C0.2.2.2.2.2.2.1 e2) (by decide) (by decide) rfl rfl (Nat.le_of_ble_eq_true rfl) dJ10_getChars_3_4 rfl ?_
  refine zr_lload_n C0 dJ10_getChars_3_7 rfl 0 rfl ?_
  refine zr_iload_n C0 dJ10_getChars_3_8 rfl 2 rfl ?_
  refine zr_aload C0 dJ10_getChars_3_9 3 rfl ?_
  obtain ⟨x6, h4, e5, hf⟩ := zbind2 hf
  refine zr_callS_r C0 cv_J10_396 (m_J10_getChars_4 C0.2.2.2.2.2.2.1 e5) (by decide) (by decide) rfl rfl (Nat.le_of_ble_eq_true rfl) dJ10_getChars_3_11 rfl ?_
  refine zr_istore (i := 5) (lv' := [(5, .int x6), (0, .long p0), (2, .int p2), (3, .int p3), (4, .ref p4)]) C0 dJ10_getChars_3_14 (by decide) (by first | rfl | simp [zst1, zst2, zcat_rf]) ?_
  cases hf
def f_J10_getChars_3 (E : zE) (p0 : Int64) (p2 : Int32) (p3 : Int32) (p4 : Nat) (h : zH) : Option (Int32 × zH) := f_J10_getChars_3_b0 E p0 p2 p3 p4 h
theorem m_J10_getChars_3 {l : Launch} (hst : l.stackTraces = false) {D : zD} {B0 : Nat} {E : zE} {p0 : Int64} {p2 : Int32} {p3 : Int32} {p4 : Nat} {h h' : zH} {r : Int32} (hf : f_J10_getChars_3 E p0 p2 p3 p4 h = some (r, h')) : zMet l yJ10_getChars_3 (ws_ yJ10_getChars_3 cJ10_getChars_3 6 (Option.some Jvm.ClassFile.FieldType.int)) 4 127 D B0 E [.long p0, .int p2, .int p3, .ref p4] h (zoI r) h' := by
  unfold f_J10_getChars_3 at hf
  refine zMet_of hst (by decide +kernel) rfl rfl (Nat.le_of_ble_eq_true rfl) (fun p e R s m below meth c C0 hno => ?_)
  show zW _ _ _ _ _ _ _ _ _ _ _ _ _ _ _ _ [(0, .long p0), (2, .int p2), (3, .int p3), (4, .ref p4)] []
  exact w_J10_getChars_3_b0 C0 hf
def f_J24_getChars_b192 (E : zE) (p7 : Int32) (h : zH) : Option (Int32 × zH) :=
  some (p7, h)
theorem w_J24_getChars_b192 (C0 : zCx p l e R s m args below meth c D B0 11 "java/lang/Long" cJ24_getChars E 1 60 (Option.some Jvm.ClassFile.FieldType.int) "getChars") {r : Int32} {h' : zH} {p7 : Int32} {h : zH} (hf : f_J24_getChars_b192 E p7 h = some (r, h')) : zW p l e R s m args below meth c D B0 11 (zEnd D B0 R below args s (zoI r) h') h 192 [(7, .int p7)] [] := by
  unfold f_J24_getChars_b192 at hf
  refine zr_iload C0 dJ24_getChars_192 0 rfl ?_
  refine zretW hf ?_
  exact zr_iret C0 (ty := .int) rfl rfl dJ24_getChars_194 rfl
def f_J24_getChars_b178 (E : zE) (p3 : Nat) (p7 : Int32) (p8 : Int32) (h : zH) : Option (Int32 × zH) :=
  if p8 = 0 then (
    f_J24_getChars_b192 E p7 h
  ) else (
    (sI h p3 2 (p7 + (-1)) ((45 : Int32).toInt8.toInt32)).bind fun h2 =>
    f_J24_getChars_b192 E (p7 + (-1)) h2
  )
theorem w_J24_getChars_b178 (C0 : zCx p l e R s m args below meth c D B0 11 "java/lang/Long" cJ24_getChars E 1 60 (Option.some Jvm.ClassFile.FieldType.int) "getChars") {r : Int32} {h' : zH} {p3 : Nat} {p7 : Int32} {p8 : Int32} {h : zH} (hf : f_J24_getChars_b178 E p3 p7 p8 h = some (r, h')) : zW p l e R s m args below meth c D B0 11 (zEnd D B0 R below args s (zoI r) h') h 178 [(3, .ref p3), (7, .int p7), (8, .int p8)] [] := by
  unfold f_J24_getChars_b178 at hf
  refine zr_iload C0 dJ24_getChars_178 2 rfl ?_
  refine zr_if_eq C0 (tgt := 192) dJ24_getChars_180 (by decide) (fun c1 => ?_) (fun c1 => ?_)
  · have hf := zif_t c1 hf
    refine zr_sub [1] rfl ?_
    exact w_J24_getChars_b192 C0 hf
  · have hf := zif_f c1 hf
    refine zr_aload_n C0 dJ24_getChars_183 rfl 0 rfl ?_
    refine zr_iinc (lv' := [(7, .int (p7 + (-1))), (3, .ref p3), (8, .int p8)]) C0 dJ24_getChars_184 1 rfl rfl (by decide) (by first | rfl | simp [zst1, zst2, zcat_rf]) ?_
    refine zr_iload C0 dJ24_getChars_187 0 rfl ?_
    refine zr_bipush C0 (v := 45) dJ24_getChars_189 (by decide) ?_
    obtain ⟨h2, e3, hf⟩ := zbind hf
    refine zr_bast C0 dJ24_getChars_191 e3 ?_
    refine zr_sub [0] rfl ?_
    exact w_J24_getChars_b192 C0 hf
def f_J24_getChars_l86 (E : zE) : Nat → Nat → Int32 → Int32 → Int32 → zH → Option (Int32 × zH)
  | 0, _, _, _, _, _ => none
  | n + 1, p3, p7, p8, p10, h =>
    if (-100 : Int32) < p10 then (
      (dI h (E.2.1 103) 2 (-p10)).bind fun x2 =>
      (sI h p3 2 (p7 + (-1)) (x2.toInt8.toInt32)).bind fun h4 =>
      if (-9 : Int32) ≤ p10 then (
        f_J24_getChars_b178 E p3 (p7 + (-1)) p8 h4
      ) else (
        (dI h4 (E.2.1 102) 2 (-p10)).bind fun x7 =>
        (sI h4 p3 2 ((p7 + (-1)) + (-1)) (x7.toInt8.toInt32)).bind fun h9 =>
        f_J24_getChars_b178 E p3 ((p7 + (-1)) + (-1)) p8 h9
      )
    ) else (
      (dI h (E.2.1 103) 2 (((p10 / (100 : Int32)) * (100 : Int32)) - p10)).bind fun x11 =>
      (sI h p3 2 (p7 + (-1)) (x11.toInt8.toInt32)).bind fun h13 =>
      (dI h13 (E.2.1 102) 2 (((p10 / (100 : Int32)) * (100 : Int32)) - p10)).bind fun x15 =>
      (sI h13 p3 2 ((p7 + (-1)) + (-1)) (x15.toInt8.toInt32)).bind fun h17 =>
      f_J24_getChars_l86 E n p3 ((p7 + (-1)) + (-1)) p8 (p10 / (100 : Int32)) h17
    )
theorem w_J24_getChars_l86 (C0 : zCx p l e R s m args below meth c D B0 11 "java/lang/Long" cJ24_getChars E 1 60 (Option.some Jvm.ClassFile.FieldType.int) "getChars") {r : Int32} {h' : zH} : ∀ (n : Nat) (p3 : Nat) (p7 : Int32) (p8 : Int32) (p10 : Int32) (h : zH), f_J24_getChars_l86 E n p3 p7 p8 p10 h = some (r, h') → zW p l e R s m args below meth c D B0 11 (zEnd D B0 R below args s (zoI r) h') h 86 [(3, .ref p3), (7, .int p7), (8, .int p8), (10, .int p10)] [] := by
  intro n
  induction n with
  | zero =>
    intro p3 p7 p8 p10 h hf
    unfold f_J24_getChars_l86 at hf
    cases hf
  | succ n ih =>
    intro p3 p7 p8 p10 h hf
    unfold f_J24_getChars_l86 at hf
    refine zr_iload C0 dJ24_getChars_86 3 rfl ?_
    refine zr_bipush C0 (v := -100) dJ24_getChars_88 (by decide) ?_
    refine zr_icmp_gt C0 (tgt := 143) dJ24_getChars_90 (by decide) (fun c1 => ?_) (fun c1 => ?_)
    · have hf := zif_t c1 hf
      refine zr_aload_n C0 dJ24_getChars_143 rfl 0 rfl ?_
      refine zr_iinc (lv' := [(7, .int (p7 + (-1))), (3, .ref p3), (8, .int p8), (10, .int p10)]) C0 dJ24_getChars_144 1 rfl rfl (by decide) (by first | rfl | simp [zst1, zst2, zcat_rf]) ?_
      refine zr_iload C0 dJ24_getChars_147 0 rfl ?_
      refine zr_gets C0 C0.2.2.2.2.2.2.2.2.2.1.2.2.2.2.2.2.2.2.2.2.2.1 q2519 dJ24_getChars_149 ?_
      refine zr_iload C0 dJ24_getChars_152 3 rfl ?_
      refine zr_ineg C0 dJ24_getChars_154 ?_
      obtain ⟨x2, e3, hf⟩ := zbind hf
      refine zr_bald C0 dJ24_getChars_155 e3 ?_
      obtain ⟨h4, e5, hf⟩ := zbind hf
      refine zr_bast C0 dJ24_getChars_156 e5 ?_
      refine zr_iload C0 dJ24_getChars_157 3 rfl ?_
      refine zr_bipush C0 (v := -9) dJ24_getChars_159 (by decide) ?_
      refine zr_icmp_ge C0 (tgt := 178) dJ24_getChars_161 (by decide) (fun c6 => ?_) (fun c6 => ?_)
      · have hf := zif_t c6 hf
        refine zr_sub [1, 0, 2] rfl ?_
        exact w_J24_getChars_b178 C0 hf
      · have hf := zif_f c6 hf
        refine zr_aload_n C0 dJ24_getChars_164 rfl 1 rfl ?_
        refine zr_iinc (lv' := [(7, .int ((p7 + (-1)) + (-1))), (3, .ref p3), (8, .int p8), (10, .int p10)]) C0 dJ24_getChars_165 0 rfl rfl (by decide) (by first | rfl | simp [zst1, zst2, zcat_rf]) ?_
        refine zr_iload C0 dJ24_getChars_168 0 rfl ?_
        refine zr_gets C0 C0.2.2.2.2.2.2.2.2.2.1.2.2.2.2.2.2.2.2.2.2.1 q2520 dJ24_getChars_170 ?_
        refine zr_iload C0 dJ24_getChars_173 3 rfl ?_
        refine zr_ineg C0 dJ24_getChars_175 ?_
        obtain ⟨x7, e8, hf⟩ := zbind hf
        refine zr_bald C0 dJ24_getChars_176 e8 ?_
        obtain ⟨h9, e10, hf⟩ := zbind hf
        refine zr_bast C0 dJ24_getChars_177 e10 ?_
        refine zr_sub [1, 0, 2] rfl ?_
        exact w_J24_getChars_b178 C0 hf
    · have hf := zif_f c1 hf
      refine zr_iload C0 dJ24_getChars_93 3 rfl ?_
      refine zr_bipush C0 (v := 100) dJ24_getChars_95 (by decide) ?_
      refine zr_idiv C0 dJ24_getChars_97 (by decide) ?_
      refine zr_istore (i := 9) (lv' := [(9, .int (p10 / (100 : Int32))), (3, .ref p3), (7, .int p7), (8, .int p8), (10, .int p10)]) C0 dJ24_getChars_98 (by decide) (by first | rfl | simp [zst1, zst2, zcat_rf]) ?_
      refine zr_iload C0 dJ24_getChars_100 0 rfl ?_
      refine zr_bipush C0 (v := 100) dJ24_getChars_102 (by decide) ?_
      refine zr_imul C0 dJ24_getChars_104 ?_
      refine zr_iload C0 dJ24_getChars_105 4 rfl ?_
      refine zr_isub C0 dJ24_getChars_107 ?_
      refine zr_istore (i := 6) (lv' := [(6, .int (((p10 / (100 : Int32)) * (100 : Int32)) - p10)), (9, .int (p10 / (100 : Int32))), (3, .ref p3), (7, .int p7), (8, .int p8), (10, .int p10)]) C0 dJ24_getChars_108 (by decide) (by first | rfl | simp [zst1, zst2, zcat_rf]) ?_
      refine zr_iload C0 dJ24_getChars_110 1 rfl ?_
      refine zr_istore (i := 10) (lv' := [(10, .int (p10 / (100 : Int32))), (6, .int (((p10 / (100 : Int32)) * (100 : Int32)) - p10)), (9, .int (p10 / (100 : Int32))), (3, .ref p3), (7, .int p7), (8, .int p8)]) C0 dJ24_getChars_112 (by decide) (by first | rfl | simp [zst1, zst2, zcat_rf]) ?_
      refine zr_aload_n C0 dJ24_getChars_114 rfl 3 rfl ?_
      refine zr_iinc (lv' := [(7, .int (p7 + (-1))), (10, .int (p10 / (100 : Int32))), (6, .int (((p10 / (100 : Int32)) * (100 : Int32)) - p10)), (9, .int (p10 / (100 : Int32))), (3, .ref p3), (8, .int p8)]) C0 dJ24_getChars_115 4 rfl rfl (by decide) (by first | rfl | simp [zst1, zst2, zcat_rf]) ?_
      refine zr_iload C0 dJ24_getChars_118 0 rfl ?_
      refine zr_gets C0 C0.2.2.2.2.2.2.2.2.2.1.2.2.2.2.2.2.2.2.2.2.2.1 q2519 dJ24_getChars_120 ?_
      refine zr_iload C0 dJ24_getChars_123 2 rfl ?_
      obtain ⟨x11, e12, hf⟩ := zbind hf
      refine zr_bald C0 dJ24_getChars_125 e12 ?_
      obtain ⟨h13, e14, hf⟩ := zbind hf
      refine zr_bast C0 dJ24_getChars_126 e14 ?_
      refine zr_aload_n C0 dJ24_getChars_127 rfl 4 rfl ?_
      refine zr_iinc (lv' := [(7, .int ((p7 + (-1)) + (-1))), (10, .int (p10 / (100 : Int32))), (6, .int (((p10 / (100 : Int32)) * (100 : Int32)) - p10)), (9, .int (p10 / (100 : Int32))), (3, .ref p3), (8, .int p8)]) C0 dJ24_getChars_128 0 rfl rfl (by decide) (by first | rfl | simp [zst1, zst2, zcat_rf]) ?_
      refine zr_iload C0 dJ24_getChars_131 0 rfl ?_
      refine zr_gets C0 C0.2.2.2.2.2.2.2.2.2.1.2.2.2.2.2.2.2.2.2.2.1 q2520 dJ24_getChars_133 ?_
      refine zr_iload C0 dJ24_getChars_136 2 rfl ?_
      obtain ⟨x15, e16, hf⟩ := zbind hf
      refine zr_bald C0 dJ24_getChars_138 e16 ?_
      obtain ⟨h17, e18, hf⟩ := zbind hf
      refine zr_bast C0 dJ24_getChars_139 e18 ?_
      refine zr_goto C0 (tgt := 86) dJ24_getChars_140 (by decide) ?_
      refine zr_sub [4, 0, 5, 1] rfl ?_
      exact ih _ _ _ _ _ hf
def f_J24_getChars_l24 (E : zE) : Nat → Int64 → Nat → Int32 → Int32 → zH → Option (Int32 × zH)
  | 0, _, _, _, _, _ => none
  | n + 1, p0, p3, p7, p8, h =>
    if (-2147483648 : Int64) < p0 then (
      f_J24_getChars_l86 E E.1 p3 p7 p8 (p0.toInt32) h
    ) else (
      (dI h (E.2.1 103) 2 ((((p0 / (100 : Int64)) * (100 : Int64)) - p0).toInt32)).bind fun x2 =>
      (sI h p3 2 (p7 + (-1)) (x2.toInt8.toInt32)).bind fun h4 =>
      (dI h4 (E.2.1 102) 2 ((((p0 / (100 : Int64)) * (100 : Int64)) - p0).toInt32)).bind fun x6 =>
      (sI h4 p3 2 ((p7 + (-1)) + (-1)) (x6.toInt8.toInt32)).bind fun h8 =>
      f_J24_getChars_l24 E n (p0 / (100 : Int64)) p3 ((p7 + (-1)) + (-1)) p8 h8
    )
theorem w_J24_getChars_l24 (C0 : zCx p l e R s m args below meth c D B0 11 "java/lang/Long" cJ24_getChars E 1 60 (Option.some Jvm.ClassFile.FieldType.int) "getChars") {r : Int32} {h' : zH} : ∀ (n : Nat) (p0 : Int64) (p3 : Nat) (p7 : Int32) (p8 : Int32) (h : zH), f_J24_getChars_l24 E n p0 p3 p7 p8 h = some (r, h') → zW p l e R s m args below meth c D B0 11 (zEnd D B0 R below args s (zoI r) h') h 24 [(0, .long p0), (3, .ref p3), (7, .int p7), (8, .int p8)] [] := by
  intro n
  induction n with
  | zero =>
    intro p0 p3 p7 p8 h hf
    unfold f_J24_getChars_l24 at hf
    cases hf
  | succ n ih =>
    intro p0 p3 p7 p8 h hf
    unfold f_J24_getChars_l24 at hf
    refine zr_lload_n C0 dJ24_getChars_24 rfl 0 rfl ?_
    refine zr_ldc2 C0 (v := -2147483648) q2517 dJ24_getChars_25 ?_
    refine zr_lcmp C0 dJ24_getChars_28 ?_
    refine zr_if_gt C0 (tgt := 82) dJ24_getChars_29 (by decide) (fun c1 => ?_) (fun c1 => ?_)
    · have hf := zif_t (zl_gt.mp c1) hf
      refine zr_lload_n C0 dJ24_getChars_82 rfl 0 rfl ?_
      refine zr_l2i C0 dJ24_getChars_83 ?_
      refine zr_istore (i := 10) (lv' := [(10, .int (p0.toInt32)), (0, .long p0), (3, .ref p3), (7, .int p7), (8, .int p8)]) C0 dJ24_getChars_84 (by decide) (by first | rfl | simp [zst1, zst2, zcat_rf]) ?_
      refine zr_sub [2, 3, 4, 0] rfl ?_
      exact w_J24_getChars_l86 C0 _ _ _ _ _ _ hf
    · have hf := zif_f (zl_gtn.mp c1) hf
      refine zr_lload_n C0 dJ24_getChars_32 rfl 0 rfl ?_
      refine zr_ldc2 C0 (v := 100) q2518 dJ24_getChars_33 ?_
      refine zr_ldiv C0 dJ24_getChars_36 (by decide) ?_
      refine zr_lstore (i := 4) (lv' := [(4, .long (p0 / (100 : Int64))), (0, .long p0), (3, .ref p3), (7, .int p7), (8, .int p8)]) C0 dJ24_getChars_37 (by decide) (by first | rfl | simp [zst1, zst2, zcat_rf]) ?_
      refine zr_lload C0 dJ24_getChars_39 0 rfl ?_
      refine zr_ldc2 C0 (v := 100) q2518 dJ24_getChars_41 ?_
      refine zr_lmul C0 dJ24_getChars_44 ?_
      refine zr_lload_n C0 dJ24_getChars_45 rfl 1 rfl ?_
      refine zr_lsub C0 dJ24_getChars_46 ?_
      refine zr_l2i C0 dJ24_getChars_47 ?_
      refine zr_istore (i := 6) (lv' := [(6, .int ((((p0 / (100 : Int64)) * (100 : Int64)) - p0).toInt32)), (4, .long (p0 / (100 : Int64))), (0, .long p0), (3, .ref p3), (7, .int p7), (8, .int p8)]) C0 dJ24_getChars_48 (by decide) (by first | rfl | simp [zst1, zst2, zcat_rf]) ?_
      refine zr_lload C0 dJ24_getChars_50 1 rfl ?_
      refine zr_lstore_n (i := 0) (lv' := [(0, .long (p0 / (100 : Int64))), (6, .int ((((p0 / (100 : Int64)) * (100 : Int64)) - p0).toInt32)), (4, .long (p0 / (100 : Int64))), (3, .ref p3), (7, .int p7), (8, .int p8)]) C0 dJ24_getChars_52 rfl (by decide) (by first | rfl | simp [zst1, zst2, zcat_rf]) ?_
      refine zr_aload_n C0 dJ24_getChars_53 rfl 3 rfl ?_
      refine zr_iinc (lv' := [(7, .int (p7 + (-1))), (0, .long (p0 / (100 : Int64))), (6, .int ((((p0 / (100 : Int64)) * (100 : Int64)) - p0).toInt32)), (4, .long (p0 / (100 : Int64))), (3, .ref p3), (8, .int p8)]) C0 dJ24_getChars_54 4 rfl rfl (by decide) (by first | rfl | simp [zst1, zst2, zcat_rf]) ?_
      refine zr_iload C0 dJ24_getChars_57 0 rfl ?_
      refine zr_gets C0 C0.2.2.2.2.2.2.2.2.2.1.2.2.2.2.2.2.2.2.2.2.2.1 q2519 dJ24_getChars_59 ?_
      refine zr_iload C0 dJ24_getChars_62 2 rfl ?_
      obtain ⟨x2, e3, hf⟩ := zbind hf
      refine zr_bald C0 dJ24_getChars_64 e3 ?_
      obtain ⟨h4, e5, hf⟩ := zbind hf
      refine zr_bast C0 dJ24_getChars_65 e5 ?_
      refine zr_aload_n C0 dJ24_getChars_66 rfl 4 rfl ?_
      refine zr_iinc (lv' := [(7, .int ((p7 + (-1)) + (-1))), (0, .long (p0 / (100 : Int64))), (6, .int ((((p0 / (100 : Int64)) * (100 : Int64)) - p0).toInt32)), (4, .long (p0 / (100 : Int64))), (3, .ref p3), (8, .int p8)]) C0 dJ24_getChars_67 0 rfl rfl (by decide) (by first | rfl | simp [zst1, zst2, zcat_rf]) ?_
      refine zr_iload C0 dJ24_getChars_70 0 rfl ?_
      refine zr_gets C0 C0.2.2.2.2.2.2.2.2.2.1.2.2.2.2.2.2.2.2.2.2.1 q2520 dJ24_getChars_72 ?_
      refine zr_iload C0 dJ24_getChars_75 2 rfl ?_
      obtain ⟨x6, e7, hf⟩ := zbind hf
      refine zr_bald C0 dJ24_getChars_77 e7 ?_
      obtain ⟨h8, e9, hf⟩ := zbind hf
      refine zr_bast C0 dJ24_getChars_78 e9 ?_
      refine zr_goto C0 (tgt := 24) dJ24_getChars_79 (by decide) ?_
      refine zr_sub [1, 4, 0, 5] rfl ?_
      exact ih _ _ _ _ _ hf
def f_J24_getChars_b14 (E : zE) (p0 : Int64) (p3 : Nat) (p7 : Int32) (s0 : Int32) (h : zH) : Option (Int32 × zH) :=
  if s0 = 0 then (
    f_J24_getChars_l24 E E.1 (-p0) p3 p7 s0 h
  ) else (
    f_J24_getChars_l24 E E.1 p0 p3 p7 s0 h
  )
theorem w_J24_getChars_b14 (C0 : zCx p l e R s m args below meth c D B0 11 "java/lang/Long" cJ24_getChars E 1 60 (Option.some Jvm.ClassFile.FieldType.int) "getChars") {r : Int32} {h' : zH} {p0 : Int64} {p3 : Nat} {p7 : Int32} {s0 : Int32} {h : zH} (hf : f_J24_getChars_b14 E p0 p3 p7 s0 h = some (r, h')) : zW p l e R s m args below meth c D B0 11 (zEnd D B0 R below args s (zoI r) h') h 14 [(0, .long p0), (3, .ref p3), (7, .int p7)] [.int s0] := by
  unfold f_J24_getChars_b14 at hf
  refine zr_istore (i := 8) (lv' := [(8, .int s0), (0, .long p0), (3, .ref p3), (7, .int p7)]) C0 dJ24_getChars_14 (by decide) (by first | rfl | simp [zst1, zst2, zcat_rf]) ?_
  refine zr_iload C0 dJ24_getChars_16 0 rfl ?_
  refine zr_if_ne C0 (tgt := 24) dJ24_getChars_18 (by decide) (fun c1 => ?_) (fun c1 => ?_)
  · have hf := zif_f c1 hf
    refine zr_sub [1, 2, 3, 0] rfl ?_
    exact w_J24_getChars_l24 C0 _ _ _ _ _ _ hf
  · have hf := zif_t c1 hf
    refine zr_lload_n C0 dJ24_getChars_21 rfl 1 rfl ?_
    refine zr_lneg C0 dJ24_getChars_22 ?_
    refine zr_lstore_n (i := 0) (lv' := [(0, .long (-p0)), (8, .int s0), (3, .ref p3), (7, .int p7)]) C0 dJ24_getChars_23 rfl (by decide) (by first | rfl | simp [zst1, zst2, zcat_rf]) ?_
    refine zr_sub [0, 2, 3, 1] rfl ?_
    exact w_J24_getChars_l24 C0 _ _ _ _ _ _ hf
def f_J24_getChars_b0 (E : zE) (p0 : Int64) (p2 : Int32) (p3 : Nat) (h : zH) : Option (Int32 × zH) :=
  if (0 : Int64) ≤ p0 then (
    f_J24_getChars_b14 E p0 p3 p2 (0 : Int32) h
  ) else (
    f_J24_getChars_b14 E p0 p3 p2 (1 : Int32) h
  )
theorem w_J24_getChars_b0 (C0 : zCx p l e R s m args below meth c D B0 11 "java/lang/Long" cJ24_getChars E 1 60 (Option.some Jvm.ClassFile.FieldType.int) "getChars") {r : Int32} {h' : zH} {p0 : Int64} {p2 : Int32} {p3 : Nat} {h : zH} (hf : f_J24_getChars_b0 E p0 p2 p3 h = some (r, h')) : zW p l e R s m args below meth c D B0 11 (zEnd D B0 R below args s (zoI r) h') h 0 [(0, .long p0), (2, .int p2), (3, .ref p3)] [] := by
  unfold f_J24_getChars_b0 at hf
  refine zr_iload_n C0 dJ24_getChars_0 rfl 1 rfl ?_
  refine zr_istore (i := 7) (lv' := [(7, .int p2), (0, .long p0), (2, .int p2), (3, .ref p3)]) C0 dJ24_getChars_1 (by decide) (by first | rfl | simp [zst1, zst2, zcat_rf]) ?_
  refine zr_lload_n C0 dJ24_getChars_3 rfl 1 rfl ?_
  refine zr_lconst C0 (v := 0) dJ24_getChars_4 (by decide) ?_
  refine zr_lcmp C0 dJ24_getChars_5 ?_
  refine zr_if_ge C0 (tgt := 13) dJ24_getChars_6 (by decide) (fun c1 => ?_) (fun c1 => ?_)
  · have hf := zif_t (zl_ge.mp c1) hf
    refine zr_iconst C0 (v := 0) dJ24_getChars_13 (by decide) ?_
    refine zr_sub [1, 3, 0] rfl ?_
    exact w_J24_getChars_b14 C0 hf
  · have hf := zif_f (zl_gen.mp c1) hf
    refine zr_iconst C0 (v := 1) dJ24_getChars_9 (by decide) ?_
    refine zr_goto C0 (tgt := 14) dJ24_getChars_10 (by decide) ?_
    refine zr_sub [1, 3, 0] rfl ?_
    exact w_J24_getChars_b14 C0 hf
def f_J24_getChars (E : zE) (p0 : Int64) (p2 : Int32) (p3 : Nat) (h : zH) : Option (Int32 × zH) := f_J24_getChars_b0 E p0 p2 p3 h
theorem m_J24_getChars {l : Launch} (hst : l.stackTraces = false) {D : zD} {B0 : Nat} {E : zE} {p0 : Int64} {p2 : Int32} {p3 : Nat} {h h' : zH} {r : Int32} (hf : f_J24_getChars E p0 p2 p3 h = some (r, h')) : zMet l yJ24_getChars (ws_ yJ24_getChars cJ24_getChars 11 (Option.some Jvm.ClassFile.FieldType.int)) 1 60 D B0 E [.long p0, .int p2, .ref p3] h (zoI r) h' := by
  unfold f_J24_getChars at hf
  refine zMet_of hst (by decide +kernel) rfl rfl (Nat.le_of_ble_eq_true rfl) (fun p e R s m below meth c C0 hno => ?_)
  show zW _ _ _ _ _ _ _ _ _ _ _ _ _ _ _ _ [(0, .long p0), (2, .int p2), (3, .ref p3)] []
  exact w_J24_getChars_b0 C0 hf
def f_J7_append_4_b52 (E : zE) (p0 : Nat) (p4 : Int32) (h : zH) : Option (Nat × zH) :=
  (pF h p0 18 3 (.int p4)).bind fun h1 =>
  some (p0, h1)
theorem w_J7_append_4_b52 (C0 : zCx p l e R s m args below meth c D B0 5 "java/lang/AbstractStringBuilder" cJ7_append_4 E 5 152 (Option.some (Jvm.ClassFile.FieldType.object "java/lang/AbstractStringBuilder")) "append") {r : Nat} {h' : zH} {p0 : Nat} {p4 : Int32} {h : zH} (hf : f_J7_append_4_b52 E p0 p4 h = some (r, h')) : zW p l e R s m args below meth c D B0 5 (zEnd D B0 R below args s (zoR r) h') h 52 [(0, .ref p0), (4, .int p4)] [] := by
  unfold f_J7_append_4_b52 at hf
  refine zr_aload_n C0 dJ7_append_4_52 rfl 0 rfl ?_
  refine zr_iload C0 dJ7_append_4_53 1 rfl ?_
  obtain ⟨h1, e2, hf⟩ := zbind hf
  refine zr_put C0 pl_J7_79_J8 dJ7_append_4_55 (fun h => by cases h) rfl rfl e2 ?_
  refine zr_aload_n C0 dJ7_append_4_58 rfl 0 rfl ?_
  refine zretW hf ?_
  exact zr_aret C0 rfl (Or.inl ⟨_, rfl⟩) dJ7_append_4_59 rfl
def f_J7_append_4_b0 (E : zE) (p0 : Nat) (p1 : Int64) (h : zH) : Option (Nat × zH) :=
  (gI h p0 18 3).bind fun x1 =>
  bnd2 (f_J24_stringSize E p1 h) fun x5 h3 =>
  (cko h3 p0 18).bind fun _ =>
  bnd2 (f_J7_ensureCapacityInternal E p0 (x1 + x5) h3) fun x9 h7 =>
  (cko h7 p0 18).bind fun _ =>
  bnd2 (f_J7_isLatin1 E p0 h7) fun x13 h11 =>
  if x13 = 0 then (
    (gR h11 p0 18 0).bind fun x15 =>
    bnd2 (f_J10_getChars_3 E p1 x1 (x1 + x5) x15 h11) fun x19 h17 =>
    f_J7_append_4_b52 E p0 (x1 + x5) h17
  ) else (
    (gR h11 p0 18 0).bind fun x20 =>
    bnd2 (f_J24_getChars E p1 (x1 + x5) x20 h11) fun x24 h22 =>
    f_J7_append_4_b52 E p0 (x1 + x5) h22
  )
theorem w_J7_append_4_b0 (C0 : zCx p l e R s m args below meth c D B0 5 "java/lang/AbstractStringBuilder" cJ7_append_4 E 5 152 (Option.some (Jvm.ClassFile.FieldType.object "java/lang/AbstractStringBuilder")) "append") {r : Nat} {h' : zH} {p0 : Nat} {p1 : Int64} {h : zH} (hf : f_J7_append_4_b0 E p0 p1 h = some (r, h')) : zW p l e R s m args below meth c D B0 5 (zEnd D B0 R below args s (zoR r) h') h 0 [(0, .ref p0), (1, .long p1)] [] := by
  unfold f_J7_append_4_b0 at hf
  refine zr_aload_n C0 dJ7_append_4_0 rfl 0 rfl ?_
  obtain ⟨x1, e2, hf⟩ := zbind hf
  refine zr_get C0 fl_J7_79_J8 dJ7_append_4_1 (zgI e2) ?_
  refine zr_istore_n (i := 3) (lv' := [(3, .int x1), (0, .ref p0), (1, .long p1)]) C0 dJ7_append_4_4 rfl (by decide) (by first | rfl | simp [zst1, zst2, zcat_rf]) ?_
  refine zr_iload_n C0 dJ7_append_4_5 rfl 0 rfl ?_
  refine zr_lload_n C0 dJ7_append_4_6 rfl 2 rfl ?_
  obtain ⟨x5, h3, e4, hf⟩ := zbind2 hf
  refine zr_callS_r C0 cv_J7_254 (m_J24_stringSize C0.2.2.2.2.2.2.1 e4) (by decide) (by decide) rfl rfl (Nat.le_of_ble_eq_true rfl) dJ7_append_4_7 rfl ?_
  refine zr_iadd C0 dJ7_append_4_10 ?_
  refine zr_istore (i := 4) (lv' := [(4, .int (x1 + x5)), (3, .int x1), (0, .ref p0), (1, .long p1)]) C0 dJ7_append_4_11 (by decide) (by first | rfl | simp [zst1, zst2, zcat_rf]) ?_
  refine zr_aload_n C0 dJ7_append_4_13 rfl 2 rfl ?_
  refine zr_iload C0 dJ7_append_4_14 0 rfl ?_
  obtain ⟨_, e6, hf⟩ := zbind hf
  obtain ⟨x9, h7, e8, hf⟩ := zbind2 hf
  refine zr_callO_r C0 cv_J7_100_J8 rfl (zcko e6) (m_J7_ensureCapacityInternal C0.2.2.2.2.2.2.1 e8) (by decide) (by decide) rfl rfl (Nat.le_of_ble_eq_true rfl) dJ7_append_4_16 rfl ?_
  refine zr_aload_n C0 dJ7_append_4_19 rfl 2 rfl ?_
  obtain ⟨_, e10, hf⟩ := zbind hf
  obtain ⟨x13, h11, e12, hf⟩ := zbind2 hf
  refine zr_callU_r C0 cv_J7_83_J8 rfl (zcko e10) (m_J7_isLatin1 C0.2.2.2.2.2.2.1 e12) (by decide) (by decide) rfl rfl (Nat.le_of_ble_eq_true rfl) dJ7_append_4_20 rfl ?_
  refine zr_if_eq C0 (tgt := 40) dJ7_append_4_23 (by decide) (fun c14 => ?_) (fun c14 => ?_)
  · have hf := zif_t c14 hf
    refine zr_lload_n C0 dJ7_append_4_40 rfl 3 rfl ?_
    refine zr_iload_n C0 dJ7_append_4_41 rfl 1 rfl ?_
    refine zr_iload C0 dJ7_append_4_42 0 rfl ?_
    refine zr_aload_n C0 dJ7_append_4_44 rfl 2 rfl ?_
    obtain ⟨x15, e16, hf⟩ := zbind hf
    refine zr_get C0 fl_J7_15_J8 dJ7_append_4_45 (zgR e16) ?_
    obtain ⟨x19, h17, e18, hf⟩ := zbind2 hf
    refine zr_callS_r C0 cv_J7_262 (m_J10_getChars_3 C0.2.2.2.2.2.2.1 e18) (by decide) (by decide) rfl rfl (Nat.le_of_ble_eq_true rfl) dJ7_append_4_48 rfl ?_
    refine zr_pop C0 dJ7_append_4_51 rfl ?_
    refine zr_sub [2, 0] rfl ?_
    exact w_J7_append_4_b52 C0 hf
  · have hf := zif_f c14 hf
    refine zr_lload_n C0 dJ7_append_4_26 rfl 3 rfl ?_
    refine zr_iload C0 dJ7_append_4_27 0 rfl ?_
    refine zr_aload_n C0 dJ7_append_4_29 rfl 2 rfl ?_
    obtain ⟨x20, e21, hf⟩ := zbind hf
    refine zr_get C0 fl_J7_15_J8 dJ7_append_4_30 (zgR e21) ?_
    obtain ⟨x24, h22, e23, hf⟩ := zbind2 hf
    refine zr_callS_r C0 cv_J7_259 (m_J24_getChars C0.2.2.2.2.2.2.1 e23) (by decide) (by decide) rfl rfl (Nat.le_of_ble_eq_true rfl) dJ7_append_4_33 rfl ?_
    refine zr_pop C0 dJ7_append_4_36 rfl ?_
    refine zr_goto C0 (tgt := 52) dJ7_append_4_37 (by decide) ?_
    refine zr_sub [2, 0] rfl ?_
    exact w_J7_append_4_b52 C0 hf
def f_J7_append_4 (E : zE) (p0 : Nat) (p1 : Int64) (h : zH) : Option (Nat × zH) := f_J7_append_4_b0 E p0 p1 h
theorem m_J7_append_4 {l : Launch} (hst : l.stackTraces = false) {D : zD} {B0 : Nat} {E : zE} {p0 : Nat} {p1 : Int64} {h h' : zH} {r : Nat} (hf : f_J7_append_4 E p0 p1 h = some (r, h')) : zMet l yJ7_append_4 (ws_ yJ7_append_4 cJ7_append_4 5 (Option.some (Jvm.ClassFile.FieldType.object "java/lang/AbstractStringBuilder"))) 5 152 D B0 E [.ref p0, .long p1] h (zoR r) h' := by
  unfold f_J7_append_4 at hf
  refine zMet_of hst (by decide +kernel) rfl rfl (Nat.le_of_ble_eq_true rfl) (fun p e R s m below meth c C0 hno => ?_)
  show zW _ _ _ _ _ _ _ _ _ _ _ _ _ _ _ _ [(0, .ref p0), (1, .long p1)] []
  exact w_J7_append_4_b0 C0 hf
def f_J8_append_4_b0 (E : zE) (p0 : Nat) (p1 : Int64) (h : zH) : Option (Nat × zH) :=
  (cko h p0 18).bind fun _ =>
  bnd2 (f_J7_append_4 E p0 p1 h) fun x4 h2 =>
  some (p0, h2)
theorem w_J8_append_4_b0 (C0 : zCx p l e R s m args below meth c D B0 3 "java/lang/StringBuilder" cJ8_append_4 E 6 176 (Option.some (Jvm.ClassFile.FieldType.object "java/lang/StringBuilder")) "append") {r : Nat} {h' : zH} {p0 : Nat} {p1 : Int64} {h : zH} (hf : f_J8_append_4_b0 E p0 p1 h = some (r, h')) : zW p l e R s m args below meth c D B0 3 (zEnd D B0 R below args s (zoR r) h') h 0 [(0, .ref p0), (1, .long p1)] [] := by
  unfold f_J8_append_4_b0 at hf
  refine zr_aload_n C0 dJ8_append_4_0 rfl 0 rfl ?_
  refine zr_lload_n C0 dJ8_append_4_1 rfl 1 rfl ?_
  obtain ⟨_, e1, hf⟩ := zbind hf
  obtain ⟨x4, h2, e3, hf⟩ := zbind2 hf
  refine zr_callSU_r C0 cv_J8_56 rfl (zcko e1) (m_J7_append_4 C0.2.2.2.2.2.2.1 e3) (by decide) (by decide) rfl rfl (Nat.le_of_ble_eq_true rfl) dJ8_append_4_2 rfl ?_
  refine zr_pop C0 dJ8_append_4_5 rfl ?_
  refine zr_aload_n C0 dJ8_append_4_6 rfl 0 rfl ?_
  refine zretW hf ?_
  exact zr_aret C0 rfl (Or.inl ⟨_, rfl⟩) dJ8_append_4_7 rfl
def f_J8_append_4 (E : zE) (p0 : Nat) (p1 : Int64) (h : zH) : Option (Nat × zH) := f_J8_append_4_b0 E p0 p1 h
theorem m_J8_append_4 {l : Launch} (hst : l.stackTraces = false) {D : zD} {B0 : Nat} {E : zE} {p0 : Nat} {p1 : Int64} {h h' : zH} {r : Nat} (hf : f_J8_append_4 E p0 p1 h = some (r, h')) : zMet l yJ8_append_4 (ws_ yJ8_append_4 cJ8_append_4 3 (Option.some (Jvm.ClassFile.FieldType.object "java/lang/StringBuilder"))) 6 176 D B0 E [.ref p0, .long p1] h (zoR r) h' := by
  unfold f_J8_append_4 at hf
  refine zMet_of hst (by decide +kernel) rfl rfl (Nat.le_of_ble_eq_true rfl) (fun p e R s m below meth c C0 hno => ?_)
  show zW _ _ _ _ _ _ _ _ _ _ _ _ _ _ _ _ [(0, .ref p0), (1, .long p1)] []
  exact w_J8_append_4_b0 C0 hf
def f_X1_format_b50 (E : zE) (p0 : Nat) (p2 : Int64) (h : zH) : Option (Unit × zH) :=
  bnd2 (f_J12_abs_2 E p2 h) fun x3 h1 =>
  (gR h1 p0 0 5).bind fun x4 =>
  (cko h1 x4 18).bind fun _ =>
  bnd2 (f_J8_append_4 E x4 (x3 / (100 : Int64)) h1) fun x9 h7 =>
  (cko h7 x9 18).bind fun _ =>
  bnd2 (f_J8_append_3 E x9 (46 : Int32) h7) fun x13 h11 =>
  (cko h11 x13 18).bind fun _ =>
  bnd2 (f_J8_append_4 E x13 ((x3 - x3 / (100 : Int64) * (100 : Int64)) / (10 : Int64)) h11) fun x17 h15 =>
  (cko h15 x17 18).bind fun _ =>
  bnd2 (f_J8_append_4 E x17 (x3 - x3 / (10 : Int64) * (10 : Int64)) h15) fun x21 h19 =>
  some ((), h19)
theorem w_X1_format_b50 (C0 : zCx p l e R s m args below meth c D B0 6 "FranchiseLedger" cX1_format E 10 264 (Option.none : Option Jvm.ClassFile.FieldType) "format") {r : Unit} {h' : zH} {p0 : Nat} {p2 : Int64} {h : zH} (hf : f_X1_format_b50 E p0 p2 h = some (r, h')) : zW p l e R s m args below meth c D B0 6 (zEnd D B0 R below args s (zoV r) h') h 50 [(0, .ref p0), (2, .long p2)] [] := by
  unfold f_X1_format_b50 at hf
  refine zr_lload_n C0 dX1_format_50 rfl 1 rfl ?_
  obtain ⟨x3, h1, e2, hf⟩ := zbind2 hf
  refine zr_callS_r C0 cv_X1_452 (m_J12_abs_2 C0.2.2.2.2.2.2.1 e2) (by decide) (by decide) rfl rfl (Nat.le_of_ble_eq_true rfl) dX1_format_51 rfl ?_
  refine zr_lstore (i := 4) (lv' := [(4, .long x3), (0, .ref p0), (2, .long p2)]) C0 dX1_format_54 (by decide) (by first | rfl | simp [zst1, zst2, zcat_rf]) ?_
  refine zr_aload_n C0 dX1_format_56 rfl 1 rfl ?_
  obtain ⟨x4, e5, hf⟩ := zbind hf
  refine zr_get C0 fl_X1_63_X1 dX1_format_57 (zgR e5) ?_
  refine zr_lload C0 dX1_format_60 0 rfl ?_
  refine zr_ldc2 C0 (v := 100) q2501 dX1_format_62 ?_
  refine zr_ldiv C0 dX1_format_65 (by decide) ?_
  obtain ⟨_, e6, hf⟩ := zbind hf
  obtain ⟨x9, h7, e8, hf⟩ := zbind2 hf
  refine zr_callV_r C0 cv_X1_456_J8 rfl (zcko e6) (m_J8_append_4 C0.2.2.2.2.2.2.1 e8) (by decide) (by decide) rfl rfl (Nat.le_of_ble_eq_true rfl) dX1_format_66 rfl ?_
  refine zr_bipush C0 (v := 46) dX1_format_69 (by decide) ?_
  obtain ⟨_, e10, hf⟩ := zbind hf
  obtain ⟨x13, h11, e12, hf⟩ := zbind2 hf
  refine zr_callV_r C0 cv_X1_445_J8 rfl (zcko e10) (m_J8_append_3 C0.2.2.2.2.2.2.1 e12) (by decide) (by decide) rfl rfl (Nat.le_of_ble_eq_true rfl) dX1_format_71 rfl ?_
  refine zr_lload C0 dX1_format_74 0 rfl ?_
  refine zr_ldc2 C0 (v := 100) q2501 dX1_format_76 ?_
  refine zr_lrem C0 dX1_format_79 (by decide) ?_
  refine zr_ldc2 C0 (v := 10) q2529 dX1_format_80 ?_
  refine zr_ldiv C0 dX1_format_83 (by decide) ?_
  obtain ⟨_, e14, hf⟩ := zbind hf
  obtain ⟨x17, h15, e16, hf⟩ := zbind2 hf
  refine zr_callV_r C0 cv_X1_456_J8 rfl (zcko e14) (m_J8_append_4 C0.2.2.2.2.2.2.1 e16) (by decide) (by decide) rfl rfl (Nat.le_of_ble_eq_true rfl) dX1_format_84 rfl ?_
  refine zr_lload C0 dX1_format_87 0 rfl ?_
  refine zr_ldc2 C0 (v := 10) q2529 dX1_format_89 ?_
  refine zr_lrem C0 dX1_format_92 (by decide) ?_
  obtain ⟨_, e18, hf⟩ := zbind hf
  obtain ⟨x21, h19, e20, hf⟩ := zbind2 hf
  refine zr_callV_r C0 cv_X1_456_J8 rfl (zcko e18) (m_J8_append_4 C0.2.2.2.2.2.2.1 e20) (by decide) (by decide) rfl rfl (Nat.le_of_ble_eq_true rfl) dX1_format_93 rfl ?_
  refine zr_pop C0 dX1_format_96 rfl ?_
  refine zretW hf ?_
  exact zr_vret C0 rfl dX1_format_97 rfl
def f_X1_format_b20 (E : zE) (p0 : Nat) (p1 : Nat) (p2 : Int64) (h : zH) : Option (Unit × zH) :=
  (gR h p0 0 5).bind fun x1 =>
  (cko h x1 18).bind fun _ =>
  bnd2 (f_J8_append E x1 p1 h) fun x6 h4 =>
  (cko h4 x6 18).bind fun _ =>
  bnd2 (f_J8_append_3 E x6 (32 : Int32) h4) fun x10 h8 =>
  if (0 : Int64) ≤ p2 then (
    f_X1_format_b50 E p0 p2 h8
  ) else (
    (gR h8 p0 0 5).bind fun x12 =>
    (cko h8 x12 18).bind fun _ =>
    bnd2 (f_J8_append_3 E x12 (45 : Int32) h8) fun x17 h15 =>
    f_X1_format_b50 E p0 p2 h15
  )
theorem w_X1_format_b20 (C0 : zCx p l e R s m args below meth c D B0 6 "FranchiseLedger" cX1_format E 10 264 (Option.none : Option Jvm.ClassFile.FieldType) "format") {r : Unit} {h' : zH} {p0 : Nat} {p1 : Nat} {p2 : Int64} {h : zH} (hf : f_X1_format_b20 E p0 p1 p2 h = some (r, h')) : zW p l e R s m args below meth c D B0 6 (zEnd D B0 R below args s (zoV r) h') h 20 [(0, .ref p0), (1, .ref p1), (2, .long p2)] [] := by
  unfold f_X1_format_b20 at hf
  refine zr_aload_n C0 dX1_format_20 rfl 0 rfl ?_
  obtain ⟨x1, e2, hf⟩ := zbind hf
  refine zr_get C0 fl_X1_63_X1 dX1_format_21 (zgR e2) ?_
  refine zr_aload_n C0 dX1_format_24 rfl 1 rfl ?_
  obtain ⟨_, e3, hf⟩ := zbind hf
  obtain ⟨x6, h4, e5, hf⟩ := zbind2 hf
  refine zr_callV_r C0 cv_X1_449_J8 rfl (zcko e3) (m_J8_append C0.2.2.2.2.2.2.1 e5) (by decide) (by decide) rfl rfl (Nat.le_of_ble_eq_true rfl) dX1_format_25 rfl ?_
  refine zr_bipush C0 (v := 32) dX1_format_28 (by decide) ?_
  obtain ⟨_, e7, hf⟩ := zbind hf
  obtain ⟨x10, h8, e9, hf⟩ := zbind2 hf
  refine zr_callV_r C0 cv_X1_445_J8 rfl (zcko e7) (m_J8_append_3 C0.2.2.2.2.2.2.1 e9) (by decide) (by decide) rfl rfl (Nat.le_of_ble_eq_true rfl) dX1_format_30 rfl ?_
  refine zr_pop C0 dX1_format_33 rfl ?_
  refine zr_lload_n C0 dX1_format_34 rfl 2 rfl ?_
  refine zr_lconst C0 (v := 0) dX1_format_35 (by decide) ?_
  refine zr_lcmp C0 dX1_format_36 ?_
  refine zr_if_ge C0 (tgt := 50) dX1_format_37 (by decide) (fun c11 => ?_) (fun c11 => ?_)
  · have hf := zif_t (zl_ge.mp c11) hf
    refine zr_sub [0, 2] rfl ?_
    exact w_X1_format_b50 C0 hf
  · have hf := zif_f (zl_gen.mp c11) hf
    refine zr_aload_n C0 dX1_format_40 rfl 0 rfl ?_
    obtain ⟨x12, e13, hf⟩ := zbind hf
    refine zr_get C0 fl_X1_63_X1 dX1_format_41 (zgR e13) ?_
    refine zr_bipush C0 (v := 45) dX1_format_44 (by decide) ?_
    obtain ⟨_, e14, hf⟩ := zbind hf
    obtain ⟨x17, h15, e16, hf⟩ := zbind2 hf
    refine zr_callV_r C0 cv_X1_445_J8 rfl (zcko e14) (m_J8_append_3 C0.2.2.2.2.2.2.1 e16) (by decide) (by decide) rfl rfl (Nat.le_of_ble_eq_true rfl) dX1_format_46 rfl ?_
    refine zr_pop C0 dX1_format_49 rfl ?_
    refine zr_sub [0, 2] rfl ?_
    exact w_X1_format_b50 C0 hf
def f_X1_format_b0 (E : zE) (p0 : Nat) (p1 : Nat) (p2 : Int64) (h : zH) : Option (Unit × zH) :=
  (gR h p0 0 5).bind fun x1 =>
  (cko h x1 18).bind fun _ =>
  bnd2 (f_J8_length E x1 h) fun x6 h4 =>
  if x6 ≤ 0 then (
    f_X1_format_b20 E p0 p1 p2 h4
  ) else (
    (gR h4 p0 0 5).bind fun x8 =>
    (cko h4 x8 18).bind fun _ =>
    bnd2 (f_J8_append_3 E x8 (32 : Int32) h4) fun x13 h11 =>
    f_X1_format_b20 E p0 p1 p2 h11
  )
theorem w_X1_format_b0 (C0 : zCx p l e R s m args below meth c D B0 6 "FranchiseLedger" cX1_format E 10 264 (Option.none : Option Jvm.ClassFile.FieldType) "format") {r : Unit} {h' : zH} {p0 : Nat} {p1 : Nat} {p2 : Int64} {h : zH} (hf : f_X1_format_b0 E p0 p1 p2 h = some (r, h')) : zW p l e R s m args below meth c D B0 6 (zEnd D B0 R below args s (zoV r) h') h 0 [(0, .ref p0), (1, .ref p1), (2, .long p2)] [] := by
  unfold f_X1_format_b0 at hf
  refine zr_aload_n C0 dX1_format_0 rfl 0 rfl ?_
  obtain ⟨x1, e2, hf⟩ := zbind hf
  refine zr_get C0 fl_X1_63_X1 dX1_format_1 (zgR e2) ?_
  obtain ⟨_, e3, hf⟩ := zbind hf
  obtain ⟨x6, h4, e5, hf⟩ := zbind2 hf
  refine zr_callV_r C0 cv_X1_442_J8 rfl (zcko e3) (m_J8_length C0.2.2.2.2.2.2.1 e5) (by decide) (by decide) rfl rfl (Nat.le_of_ble_eq_true rfl) dX1_format_4 rfl ?_
  refine zr_if_le C0 (tgt := 20) dX1_format_7 (by decide) (fun c7 => ?_) (fun c7 => ?_)
  · have hf := zif_t c7 hf
    exact w_X1_format_b20 C0 hf
  · have hf := zif_f c7 hf
    refine zr_aload_n C0 dX1_format_10 rfl 0 rfl ?_
    obtain ⟨x8, e9, hf⟩ := zbind hf
    refine zr_get C0 fl_X1_63_X1 dX1_format_11 (zgR e9) ?_
    refine zr_bipush C0 (v := 32) dX1_format_14 (by decide) ?_
    obtain ⟨_, e10, hf⟩ := zbind hf
    obtain ⟨x13, h11, e12, hf⟩ := zbind2 hf
    refine zr_callV_r C0 cv_X1_445_J8 rfl (zcko e10) (m_J8_append_3 C0.2.2.2.2.2.2.1 e12) (by decide) (by decide) rfl rfl (Nat.le_of_ble_eq_true rfl) dX1_format_16 rfl ?_
    refine zr_pop C0 dX1_format_19 rfl ?_
    exact w_X1_format_b20 C0 hf
def f_X1_format (E : zE) (p0 : Nat) (p1 : Nat) (p2 : Int64) (h : zH) : Option (Unit × zH) := f_X1_format_b0 E p0 p1 p2 h
theorem m_X1_format {l : Launch} (hst : l.stackTraces = false) {D : zD} {B0 : Nat} {E : zE} {p0 : Nat} {p1 : Nat} {p2 : Int64} {h h' : zH} {r : Unit} (hf : f_X1_format E p0 p1 p2 h = some (r, h')) : zMet l yX1_format (ws_ yX1_format cX1_format 6 (Option.none : Option Jvm.ClassFile.FieldType)) 10 264 D B0 E [.ref p0, .ref p1, .long p2] h (zoV r) h' := by
  unfold f_X1_format at hf
  refine zMet_of hst (by decide +kernel) rfl rfl (Nat.le_of_ble_eq_true rfl) (fun p e R s m below meth c C0 hno => ?_)
  show zW _ _ _ _ _ _ _ _ _ _ _ _ _ _ _ _ [(0, .ref p0), (1, .ref p1), (2, .long p2)] []
  exact w_X1_format_b0 C0 hf
def f_X1_formatInvoice_l31 (E : zE) : Nat → Nat → Int32 → Nat → Int32 → zH → Option ((Int32 ⊕ (Nat × Nat)) × zH)
  | 0, _, _, _, _, _ => none
  | n + 1, p0, p2, p3, p4, h =>
    if (7 : Int32) ≤ p4 then (
      (gR h p0 0 5).bind fun x2 =>
      (cko h x2 18).bind fun _ =>
      bnd2 (f_J8_length E x2 h) fun x7 h5 =>
      some (.inl x7, h5)
    ) else (
      bnd2 (f_X1_nameOf E p4 h) fun x10 h8 =>
      (gR h8 p3 10 1).bind fun x11 =>
      (dR h8 x11 5 p2).bind fun x13 =>
      (dL h8 x13 p4).bind fun x15 =>
      (cko h8 p0 0).bind fun _ =>
      bnd2 (f_X1_format E p0 x10 x15 h8) fun x20 h18 =>
      f_X1_formatInvoice_l31 E n p0 p2 p3 (p4 + 1) h18
    )
theorem w_X1_formatInvoice_l31 (C0 : zCx p l e R s m args below meth c D B0 5 "FranchiseLedger" cX1_formatInvoice E 11 289 (Option.some Jvm.ClassFile.FieldType.int) "formatInvoice") (hno : ∀ x ∈ c.exceptionTable.toList, False) {r : (Int32 ⊕ (Nat × Nat))} {h' : zH} : ∀ (n : Nat) (p0 : Nat) (p2 : Int32) (p3 : Nat) (p4 : Int32) (h : zH), f_X1_formatInvoice_l31 E n p0 p2 p3 p4 h = some (r, h') → zW p l e R s m args below meth c D B0 5 (zEnd D B0 R below args s (zoT zoI r) h') h 31 [(0, .ref p0), (2, .int p2), (3, .ref p3), (4, .int p4)] [] := by
  intro n
  induction n with
  | zero =>
    intro p0 p2 p3 p4 h hf
    unfold f_X1_formatInvoice_l31 at hf
    cases hf
  | succ n ih =>
    intro p0 p2 p3 p4 h hf
    unfold f_X1_formatInvoice_l31 at hf
    refine zr_iload C0 dX1_formatInvoice_31 3 rfl ?_
    refine zr_bipush C0 (v := 7) dX1_formatInvoice_33 (by decide) ?_
    refine zr_icmp_ge C0 (tgt := 62) dX1_formatInvoice_35 (by decide) (fun c1 => ?_) (fun c1 => ?_)
    · have hf := zif_t c1 hf
      refine zr_aload_n C0 dX1_formatInvoice_62 rfl 0 rfl ?_
      obtain ⟨x2, e3, hf⟩ := zbind hf
      refine zr_get C0 fl_X1_63_X1 dX1_formatInvoice_63 (zgR e3) ?_
      obtain ⟨_, e4, hf⟩ := zbind hf
      obtain ⟨x7, h5, e6, hf⟩ := zbind2 hf
      refine zr_callV_r C0 cv_X1_442_J8 rfl (zcko e4) (m_J8_length C0.2.2.2.2.2.2.1 e6) (by decide) (by decide) rfl rfl (Nat.le_of_ble_eq_true rfl) dX1_formatInvoice_66 rfl ?_
      refine zretW hf ?_
      exact zr_iret C0 (ty := .int) rfl rfl dX1_formatInvoice_69 rfl
    · have hf := zif_f c1 hf
      refine zr_aload_n C0 dX1_formatInvoice_38 rfl 0 rfl ?_
      refine zr_iload C0 dX1_formatInvoice_39 3 rfl ?_
      obtain ⟨x10, h8, e9, hf⟩ := zbind2 hf
      refine zr_callS_r C0 cv_X1_475 (m_X1_nameOf C0.2.2.2.2.2.2.1 e9) (by decide) (by decide) rfl rfl (Nat.le_of_ble_eq_true rfl) dX1_formatInvoice_41 rfl ?_
      refine zr_aload_n C0 dX1_formatInvoice_44 rfl 2 rfl ?_
      obtain ⟨x11, e12, hf⟩ := zbind hf
      refine zr_get C0 fl_X1_298_X11 dX1_formatInvoice_45 (zgR e12) ?_
      refine zr_iload_n C0 dX1_formatInvoice_48 rfl 1 rfl ?_
      obtain ⟨x13, e14, hf⟩ := zbind hf
      refine zr_aald C0 rfl dX1_formatInvoice_49 e14 ?_
      refine zr_iload C0 dX1_formatInvoice_50 3 rfl ?_
      obtain ⟨x15, e16, hf⟩ := zbind hf
      refine zr_lald C0 dX1_formatInvoice_52 e16 ?_
      obtain ⟨_, e17, hf⟩ := zbind hf
      obtain ⟨x20, h18, e19, hf⟩ := zbind2 hf
      refine zr_callV_r C0 cv_X1_479_X1 rfl (zcko e17) (m_X1_format C0.2.2.2.2.2.2.1 e19) (by decide) (by decide) rfl rfl (Nat.le_of_ble_eq_true rfl) dX1_formatInvoice_53 rfl ?_
      refine zr_iinc (lv' := [(4, .int (p4 + 1)), (0, .ref p0), (2, .int p2), (3, .ref p3)]) C0 dX1_formatInvoice_56 3 rfl rfl (by decide) (by first | rfl | simp [zst1, zst2, zcat_rf]) ?_
      refine zr_goto C0 (tgt := 31) dX1_formatInvoice_59 (by decide) ?_
      refine zr_sub [1, 2, 3, 0] rfl ?_
      exact ih _ _ _ _ _ hf
def f_X1_formatInvoice_b0 (E : zE) (p0 : Nat) (p1 : Int32) (p2 : Int32) (h : zH) : Option ((Int32 ⊕ (Nat × Nat)) × zH) :=
  (cko h p0 0).bind fun _ =>
  bnd2 (f_X1_franchisee E p0 p1 h) fun x4 h2 =>
  Sum.elim (fun x5 => (
    bnd2 (nA h2 3 (1 : Int32) (.inl fun _ => 0)) fun q7 h8 =>
    (cko h8 p0 0).bind fun _ =>
    bnd2 (f_X1_isClosed E p0 p2 h8) fun x13 h11 =>
    (zgd .boolean x13).bind fun _ =>
    (sI h11 q7 3 (0 : Int32) x13).bind fun h15 =>
    bnd2 (f_X1_requireArguments E q7 h15) fun x19 h17 =>
    Sum.elim (fun x20 => (
      (gR h17 p0 0 5).bind fun x22 =>
      (cko h17 x22 18).bind fun _ =>
      bnd2 (f_J8_setLength E x22 (0 : Int32) h17) fun x27 h25 =>
      f_X1_formatInvoice_l31 E E.1 p0 p2 x5 (0 : Int32) h25
    )) (fun q21 => (
      some (.inr q21, h17)
    )) x19
  )) (fun q6 => (
    some (.inr q6, h2)
  )) x4
theorem w_X1_formatInvoice_b0 (C0 : zCx p l e R s m args below meth c D B0 5 "FranchiseLedger" cX1_formatInvoice E 11 289 (Option.some Jvm.ClassFile.FieldType.int) "formatInvoice") (hno : ∀ x ∈ c.exceptionTable.toList, False) {r : (Int32 ⊕ (Nat × Nat))} {h' : zH} {p0 : Nat} {p1 : Int32} {p2 : Int32} {h : zH} (hf : f_X1_formatInvoice_b0 E p0 p1 p2 h = some (r, h')) : zW p l e R s m args below meth c D B0 5 (zEnd D B0 R below args s (zoT zoI r) h') h 0 [(0, .ref p0), (1, .int p1), (2, .int p2)] [] := by
  unfold f_X1_formatInvoice_b0 at hf
  refine zr_aload_n C0 dX1_formatInvoice_0 rfl 0 rfl ?_
  refine zr_iload_n C0 dX1_formatInvoice_1 rfl 1 rfl ?_
  obtain ⟨_, e1, hf⟩ := zbind hf
  obtain ⟨x4, h2, e3, hf⟩ := zbind2 hf
  rcases x4 with x5 | q6
  · have hf := zinl hf
    refine zr_callV_r C0 cv_X1_134_X1 rfl (zcko e1) (m_X1_franchisee C0.2.2.2.2.2.2.1 e3) (by decide) (by decide) rfl rfl (Nat.le_of_ble_eq_true rfl) dX1_formatInvoice_2 rfl ?_
    refine zr_astore_n (i := 3) (lv' := [(3, .ref x5), (0, .ref p0), (1, .int p1), (2, .int p2)]) C0 dX1_formatInvoice_5 rfl (by decide) (by first | rfl | simp [zst1, zst2, zcat_rf]) ?_
    refine zr_iconst C0 (v := 1) dX1_formatInvoice_6 (by decide) ?_
    obtain ⟨q7, h8, e9, hf⟩ := zbind2 hf
    refine zr_newa C0 (atype := .boolean) (t := 3) q627 rfl (by decide) (fun _ => rfl) dX1_formatInvoice_7 e9 ?_
    refine zr_dup C0 dX1_formatInvoice_9 rfl ?_
    refine zr_iconst C0 (v := 0) dX1_formatInvoice_10 (by decide) ?_
    refine zr_aload_n C0 dX1_formatInvoice_11 rfl 1 rfl ?_
    refine zr_iload_n C0 dX1_formatInvoice_12 rfl 3 rfl ?_
    obtain ⟨_, e10, hf⟩ := zbind hf
    obtain ⟨x13, h11, e12, hf⟩ := zbind2 hf
    refine zr_callV_r C0 cv_X1_280_X1 rfl (zcko e10) (m_X1_isClosed C0.2.2.2.2.2.2.1 e12) (by decide) (by decide) rfl rfl (Nat.le_of_ble_eq_true rfl) dX1_formatInvoice_13 rfl ?_
    obtain ⟨_, e14, hf⟩ := zbind hf
    obtain ⟨h15, e16, hf⟩ := zbind hf
    refine zr_zast C0 dX1_formatInvoice_16 (zgd_b e14) e16 ?_
    obtain ⟨x19, h17, e18, hf⟩ := zbind2 hf
    rcases x19 with x20 | q21
    · have hf := zinl hf
      refine zr_callS_r C0 cv_X1_168 (m_X1_requireArguments C0.2.2.2.2.2.2.1 e18) (by decide) (by decide) rfl rfl (Nat.le_of_ble_eq_true rfl) dX1_formatInvoice_17 rfl ?_
      refine zr_aload_n C0 dX1_formatInvoice_20 rfl 1 rfl ?_
      obtain ⟨x22, e23, hf⟩ := zbind hf
      refine zr_get C0 fl_X1_63_X1 dX1_formatInvoice_21 (zgR e23) ?_
      refine zr_iconst C0 (v := 0) dX1_formatInvoice_24 (by decide) ?_
      obtain ⟨_, e24, hf⟩ := zbind hf
      obtain ⟨x27, h25, e26, hf⟩ := zbind2 hf
      refine zr_callV_r C0 cv_X1_472_J8 rfl (zcko e24) (m_J8_setLength C0.2.2.2.2.2.2.1 e26) (by decide) (by decide) rfl rfl (Nat.le_of_ble_eq_true rfl) dX1_formatInvoice_25 rfl ?_
      refine zr_iconst C0 (v := 0) dX1_formatInvoice_28 (by decide) ?_
      refine zr_istore (i := 4) (lv' := [(4, .int (0 : Int32)), (3, .ref x5), (0, .ref p0), (1, .int p1), (2, .int p2)]) C0 dX1_formatInvoice_29 (by decide) (by first | rfl | simp [zst1, zst2, zcat_rf]) ?_
      refine zr_sub [2, 4, 1, 0] rfl ?_
      exact w_X1_formatInvoice_l31 C0 hno _ _ _ _ _ _ hf
    · have hf := zinr hf
      refine zretW hf ?_
      exact zr_callS_t C0 cv_X1_168 (m_X1_requireArguments C0.2.2.2.2.2.2.1 e18) (by decide) (by decide) rfl rfl (Nat.le_of_ble_eq_true rfl) dX1_formatInvoice_17 (zr_out C0 hno rfl)
  · have hf := zinr hf
    refine zretW hf ?_
    exact zr_callV_t C0 cv_X1_134_X1 rfl (zcko e1) (m_X1_franchisee C0.2.2.2.2.2.2.1 e3) (by decide) (by decide) rfl rfl (Nat.le_of_ble_eq_true rfl) dX1_formatInvoice_2 (zr_out C0 hno rfl)
def f_X1_formatInvoice (E : zE) (p0 : Nat) (p1 : Int32) (p2 : Int32) (h : zH) : Option ((Int32 ⊕ (Nat × Nat)) × zH) := f_X1_formatInvoice_b0 E p0 p1 p2 h
theorem m_X1_formatInvoice {l : Launch} (hst : l.stackTraces = false) {D : zD} {B0 : Nat} {E : zE} {p0 : Nat} {p1 : Int32} {p2 : Int32} {h h' : zH} {r : (Int32 ⊕ (Nat × Nat))} (hf : f_X1_formatInvoice E p0 p1 p2 h = some (r, h')) : zMet l yX1_formatInvoice (ws_ yX1_formatInvoice cX1_formatInvoice 5 (Option.some Jvm.ClassFile.FieldType.int)) 11 289 D B0 E [.ref p0, .int p1, .int p2] h (zoT zoI r) h' := by
  unfold f_X1_formatInvoice at hf
  refine zMet_of hst (by decide +kernel) rfl rfl (Nat.le_of_ble_eq_true rfl) (fun p e R s m below meth c C0 hno => ?_)
  show zW _ _ _ _ _ _ _ _ _ _ _ _ _ _ _ _ [(0, .ref p0), (1, .int p1), (2, .int p2)] []
  exact w_X1_formatInvoice_b0 C0 hno hf
end
