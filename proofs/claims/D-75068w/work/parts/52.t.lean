/-! the twin on its contents -/
set_option maxRecDepth 100000
def t_X6_pay (E : zE) (p1 : Int32) (p2 : Int64) (s : twS) : Option (Int64 × twS) :=
  t_X6_pay_b0 E p1 p2 s
theorem ts_X6_pay (E : zE) (q : Nat) (g : zH) (p1 : Int32) (p2 : Int64) (s : twS) : f_X6_pay E q p1 p2 (tw s q g) = (t_X6_pay E p1 p2 s).map (zem q g) := by
  unfold f_X6_pay t_X6_pay
  exact ts_X6_pay_b0 E q g  _ _  _
def t_X6_payOff_b50 (E : zE) (s : twS) : Option (Int32 × twS) :=
  some ((0 : Int32), s)
theorem ts_X6_payOff_b50 (E : zE) (q : Nat) (g : zH) (s : twS) : f_X6_payOff_b50 E  (tw s q g) = (t_X6_payOff_b50 E  s).map (zem q g) := by
  unfold f_X6_payOff_b50 t_X6_payOff_b50
  rfl
def t_X6_payOff_b115 (E : zE) (s0 : Int32) (s : twS) : Option (Int32 × twS) :=
  some (s0, s)
theorem ts_X6_payOff_b115 (E : zE) (q : Nat) (g : zH) (s0 : Int32) (s : twS) : f_X6_payOff_b115 E s0 (tw s q g) = (t_X6_payOff_b115 E s0 s).map (zem q g) := by
  unfold f_X6_payOff_b115 t_X6_payOff_b115
  rfl
def t_X6_payOff_b102 (E : zE) (p4 : Int64) (p6 : Int32) (s : twS) : Option (Int32 × twS) :=
  if p4 ≤ (0 : Int64) then (
    t_X6_payOff_b115 E p6 s
  ) else (
    t_X6_payOff_b115 E (-1 : Int32) s
  )
theorem ts_X6_payOff_b102 (E : zE) (q : Nat) (g : zH) (p4 : Int64) (p6 : Int32) (s : twS) : f_X6_payOff_b102 E p4 p6 (tw s q g) = (t_X6_payOff_b102 E p4 p6 s).map (zem q g) := by
  unfold f_X6_payOff_b102 t_X6_payOff_b102
  refine tb6 ?_ ?_
  · exact ts_X6_payOff_b115 E q g  _  _
  · exact ts_X6_payOff_b115 E q g  _  _
def t_X6_payOff_l63 (E : zE) : Nat → Int64 → Int64 → Int32 → twS → Option (Int32 × twS)
  | 0, _, _, _, _ => none
  | n + 1, p2, p4, p6, s =>
    if p4 ≤ (0 : Int64) then (
      t_X6_payOff_b102 E p4 p6 s
    ) else (
      if (120 : Int32) ≤ p6 then (
        t_X6_payOff_b102 E p4 p6 s
      ) else (
        (tdL s 1 (6 : Int32)).bind fun x5 =>
        bnd2 (t_X6_rated E p4 x5 s) fun x9 s7_ =>
        t_X6_payOff_l63 E n p2 (p4 + (x9 - p2)) (p6 + 1) s7_
      )
    )
theorem ts_X6_payOff_l63 (E : zE) (q : Nat) (g : zH) : ∀ (n : Nat) (p2 : Int64) (p4 : Int64) (p6 : Int32) (s : twS), f_X6_payOff_l63 E n q p2 p4 p6 (tw s q g) = (t_X6_payOff_l63 E n p2 p4 p6 s).map (zem q g) := by
  intro n
  induction n with
  | zero => intros; rfl
  | succ n ih =>
    intro p2 p4 p6 s
    unfold f_X6_payOff_l63 t_X6_payOff_l63
    refine tb6 ?_ ?_
    · exact ts_X6_payOff_b102 E q g  _ _  _
    · refine tb6 ?_ ?_
      · exact ts_X6_payOff_b102 E q g  _ _  _
      · refine tb1 (tw_gR_0 _ q g) ?_
        refine tb2 (tw_dL _ q g (by decide) _ ) fun x5 => ?_
        refine tb5 (ts_X6_rated E q g  _ _  _) fun x9 s7_ => ?_
        exact ih _ _ _  _
def t_X6_payOff_b43 (E : zE) (p1 : Int32) (p2 : Int64) (s1 : Int32) (s : twS) : Option (Int32 × twS) :=
  bnd2 (t_X6_throwsIf E s1 (2 : Int32) s) fun x4 s2_ =>
  if x4 = 0 then (
    bnd2 (t_X6_of E p1 (4 : Int32) s2_) fun x9 s7_ =>
    t_X6_payOff_l63 E E.1 p2 x9 (0 : Int32) s7_
  ) else (
    t_X6_payOff_b50 E s2_
  )
theorem ts_X6_payOff_b43 (E : zE) (q : Nat) (g : zH) (p1 : Int32) (p2 : Int64) (s1 : Int32) (s : twS) : f_X6_payOff_b43 E q p1 p2 q s1 (tw s q g) = (t_X6_payOff_b43 E p1 p2 s1 s).map (zem q g) := by
  unfold f_X6_payOff_b43 t_X6_payOff_b43
  refine tb1 (tw_cko _ q g) ?_
  refine tb5 (ts_X6_throwsIf E q g  _ _  _) fun x4 s2_ => ?_
  refine tb6 ?_ ?_
  · refine tb1 (tw_cko _ q g) ?_
    refine tb5 (ts_X6_of E q g  _ _  _) fun x9 s7_ => ?_
    exact ts_X6_payOff_l63 E q g E.1 _ _ _  _
  · exact ts_X6_payOff_b50 E q g   _
def t_X6_payOff_b19 (E : zE) (p1 : Int32) (p2 : Int64) (s1 : Int32) (s : twS) : Option (Int32 × twS) :=
  bnd2 (t_X6_throwsIf E s1 (1 : Int32) s) fun x4 s2_ =>
  if x4 = 0 then (
    bnd2 (t_X6_inRange E p2 (1 : Int64) (1000000000 : Int64) s2_) fun x8 s6_ =>
    if x8 = 0 then (
      t_X6_payOff_b43 E p1 p2 (1 : Int32) s6_
    ) else (
      t_X6_payOff_b43 E p1 p2 (0 : Int32) s6_
    )
  ) else (
    t_X6_payOff_b50 E s2_
  )
theorem ts_X6_payOff_b19 (E : zE) (q : Nat) (g : zH) (p1 : Int32) (p2 : Int64) (s1 : Int32) (s : twS) : f_X6_payOff_b19 E q p1 p2 q s1 (tw s q g) = (t_X6_payOff_b19 E p1 p2 s1 s).map (zem q g) := by
  unfold f_X6_payOff_b19 t_X6_payOff_b19
  refine tb1 (tw_cko _ q g) ?_
  refine tb5 (ts_X6_throwsIf E q g  _ _  _) fun x4 s2_ => ?_
  refine tb6 ?_ ?_
  · refine tb5 (ts_X6_inRange E q g  _ _ _  _) fun x8 s6_ => ?_
    refine tb6 ?_ ?_
    · exact ts_X6_payOff_b43 E q g  _ _ _  _
    · exact ts_X6_payOff_b43 E q g  _ _ _  _
  · exact ts_X6_payOff_b50 E q g   _
def t_X6_payOff_b0 (E : zE) (p1 : Int32) (p2 : Int64) (s : twS) : Option (Int32 × twS) :=
  bnd2 (t_X6_isFranchisee E p1 (uSc s 2 (0 : Int32))) fun x6 s4_ =>
  if x6 = 0 then (
    t_X6_payOff_b19 E p1 p2 (1 : Int32) s4_
  ) else (
    t_X6_payOff_b19 E p1 p2 (0 : Int32) s4_
  )
theorem ts_X6_payOff_b0 (E : zE) (q : Nat) (g : zH) (p1 : Int32) (p2 : Int64) (s : twS) : f_X6_payOff_b0 E q p1 p2 (tw s q g) = (t_X6_payOff_b0 E p1 p2 s).map (zem q g) := by
  unfold f_X6_payOff_b0 t_X6_payOff_b0
  refine tb1 (tw_pI_2 _ q g _) ?_
  refine tb1 (tw_cko _ q g) ?_
  refine tb5 (ts_X6_isFranchisee E q g  _  _) fun x6 s4_ => ?_
  refine tb6 ?_ ?_
  · exact ts_X6_payOff_b19 E q g  _ _ _  _
  · exact ts_X6_payOff_b19 E q g  _ _ _  _
def t_X6_payOff (E : zE) (p1 : Int32) (p2 : Int64) (s : twS) : Option (Int32 × twS) :=
  t_X6_payOff_b0 E p1 p2 s
theorem ts_X6_payOff (E : zE) (q : Nat) (g : zH) (p1 : Int32) (p2 : Int64) (s : twS) : f_X6_payOff E q p1 p2 (tw s q g) = (t_X6_payOff E p1 p2 s).map (zem q g) := by
  unfold f_X6_payOff t_X6_payOff
  exact ts_X6_payOff_b0 E q g  _ _  _
def t_X6_monthsOverdue_b38 (E : zE) (s0 : Int32) (s : twS) : Option (Int32 × twS) :=
  some (s0, s)
theorem ts_X6_monthsOverdue_b38 (E : zE) (q : Nat) (g : zH) (s0 : Int32) (s : twS) : f_X6_monthsOverdue_b38 E s0 (tw s q g) = (t_X6_monthsOverdue_b38 E s0 s).map (zem q g) := by
  unfold f_X6_monthsOverdue_b38 t_X6_monthsOverdue_b38
  rfl
def t_X6_monthsOverdue_b19 (E : zE) (p1 : Int32) (s1 : Int32) (s : twS) : Option (Int32 × twS) :=
  bnd2 (t_X6_throwsIf E s1 (1 : Int32) s) fun x4 s2_ =>
  if x4 = 0 then (
    bnd2 (t_X6_of E p1 (6 : Int32) s2_) fun x9 s7_ =>
    t_X6_monthsOverdue_b38 E (x9.toInt32) s7_
  ) else (
    t_X6_monthsOverdue_b38 E (0 : Int32) s2_
  )
theorem ts_X6_monthsOverdue_b19 (E : zE) (q : Nat) (g : zH) (p1 : Int32) (s1 : Int32) (s : twS) : f_X6_monthsOverdue_b19 E q p1 q s1 (tw s q g) = (t_X6_monthsOverdue_b19 E p1 s1 s).map (zem q g) := by
  unfold f_X6_monthsOverdue_b19 t_X6_monthsOverdue_b19
  refine tb1 (tw_cko _ q g) ?_
  refine tb5 (ts_X6_throwsIf E q g  _ _  _) fun x4 s2_ => ?_
  refine tb6 ?_ ?_
  · refine tb1 (tw_cko _ q g) ?_
    refine tb5 (ts_X6_of E q g  _ _  _) fun x9 s7_ => ?_
    exact ts_X6_monthsOverdue_b38 E q g  _  _
  · exact ts_X6_monthsOverdue_b38 E q g  _  _
def t_X6_monthsOverdue_b0 (E : zE) (p1 : Int32) (s : twS) : Option (Int32 × twS) :=
  bnd2 (t_X6_isFranchisee E p1 (uSc s 2 (0 : Int32))) fun x6 s4_ =>
  if x6 = 0 then (
    t_X6_monthsOverdue_b19 E p1 (1 : Int32) s4_
  ) else (
    t_X6_monthsOverdue_b19 E p1 (0 : Int32) s4_
  )
theorem ts_X6_monthsOverdue_b0 (E : zE) (q : Nat) (g : zH) (p1 : Int32) (s : twS) : f_X6_monthsOverdue_b0 E q p1 (tw s q g) = (t_X6_monthsOverdue_b0 E p1 s).map (zem q g) := by
  unfold f_X6_monthsOverdue_b0 t_X6_monthsOverdue_b0
  refine tb1 (tw_pI_2 _ q g _) ?_
  refine tb1 (tw_cko _ q g) ?_
  refine tb5 (ts_X6_isFranchisee E q g  _  _) fun x6 s4_ => ?_
  refine tb6 ?_ ?_
  · exact ts_X6_monthsOverdue_b19 E q g  _ _  _
  · exact ts_X6_monthsOverdue_b19 E q g  _ _  _
def t_X6_monthsOverdue (E : zE) (p1 : Int32) (s : twS) : Option (Int32 × twS) :=
  t_X6_monthsOverdue_b0 E p1 s
theorem ts_X6_monthsOverdue (E : zE) (q : Nat) (g : zH) (p1 : Int32) (s : twS) : f_X6_monthsOverdue E q p1 (tw s q g) = (t_X6_monthsOverdue E p1 s).map (zem q g) := by
  unfold f_X6_monthsOverdue t_X6_monthsOverdue
  exact ts_X6_monthsOverdue_b0 E q g  _  _
def t_X6_isOpenTransfer_b31 (E : zE) (s0 : Int32) (s : twS) : Option (Int32 × twS) :=
  (zgd .boolean s0).bind fun _ =>
  some (s0, s)
theorem ts_X6_isOpenTransfer_b31 (E : zE) (q : Nat) (g : zH) (s0 : Int32) (s : twS) : f_X6_isOpenTransfer_b31 E s0 (tw s q g) = (t_X6_isOpenTransfer_b31 E s0 s).map (zem q g) := by
  unfold f_X6_isOpenTransfer_b31 t_X6_isOpenTransfer_b31
  refine tb2 rfl fun _ => ?_
  rfl
def t_X6_isOpenTransfer_b26 (E : zE) (s : twS) : Option (Int32 × twS) :=
  t_X6_isOpenTransfer_b31 E (1 : Int32) s
theorem ts_X6_isOpenTransfer_b26 (E : zE) (q : Nat) (g : zH) (s : twS) : f_X6_isOpenTransfer_b26 E  (tw s q g) = (t_X6_isOpenTransfer_b26 E  s).map (zem q g) := by
  unfold f_X6_isOpenTransfer_b26 t_X6_isOpenTransfer_b26
  exact ts_X6_isOpenTransfer_b31 E q g  _  _
def t_X6_isOpenTransfer_b0 (E : zE) (p1 : Int32) (s : twS) : Option (Int32 × twS) :=
  bnd2 (t_X6_of E p1 (9 : Int32) s) fun x4 s2_ =>
  if x4 = (1 : Int64) then (
    t_X6_isOpenTransfer_b26 E s2_
  ) else (
    bnd2 (t_X6_of E p1 (9 : Int32) s2_) fun x9 s7_ =>
    if x9 = (2 : Int64) then (
      t_X6_isOpenTransfer_b26 E s7_
    ) else (
      t_X6_isOpenTransfer_b31 E (0 : Int32) s7_
    )
  )
theorem ts_X6_isOpenTransfer_b0 (E : zE) (q : Nat) (g : zH) (p1 : Int32) (s : twS) : f_X6_isOpenTransfer_b0 E q p1 (tw s q g) = (t_X6_isOpenTransfer_b0 E p1 s).map (zem q g) := by
  unfold f_X6_isOpenTransfer_b0 t_X6_isOpenTransfer_b0
  refine tb1 (tw_cko _ q g) ?_
  refine tb5 (ts_X6_of E q g  _ _  _) fun x4 s2_ => ?_
  refine tb6 ?_ ?_
  · exact ts_X6_isOpenTransfer_b26 E q g   _
  · refine tb1 (tw_cko _ q g) ?_
    refine tb5 (ts_X6_of E q g  _ _  _) fun x9 s7_ => ?_
    refine tb6 ?_ ?_
    · exact ts_X6_isOpenTransfer_b26 E q g   _
    · exact ts_X6_isOpenTransfer_b31 E q g  _  _
def t_X6_isOpenTransfer (E : zE) (p1 : Int32) (s : twS) : Option (Int32 × twS) :=
  t_X6_isOpenTransfer_b0 E p1 s
theorem ts_X6_isOpenTransfer (E : zE) (q : Nat) (g : zH) (p1 : Int32) (s : twS) : f_X6_isOpenTransfer E q p1 (tw s q g) = (t_X6_isOpenTransfer E p1 s).map (zem q g) := by
  unfold f_X6_isOpenTransfer t_X6_isOpenTransfer
  exact ts_X6_isOpenTransfer_b0 E q g  _  _
def t_X6_terminate_b48 (E : zE) (s : twS) : Option (Int32 × twS) :=
  some ((0 : Int32), s)
theorem ts_X6_terminate_b48 (E : zE) (q : Nat) (g : zH) (s : twS) : f_X6_terminate_b48 E  (tw s q g) = (t_X6_terminate_b48 E  s).map (zem q g) := by
  unfold f_X6_terminate_b48 t_X6_terminate_b48
  rfl
def t_X6_terminate_b168 (E : zE) (s : twS) : Option (Int32 × twS) :=
  some ((1 : Int32), s)
theorem ts_X6_terminate_b168 (E : zE) (q : Nat) (g : zH) (s : twS) : f_X6_terminate_b168 E  (tw s q g) = (t_X6_terminate_b168 E  s).map (zem q g) := by
  unfold f_X6_terminate_b168 t_X6_terminate_b168
  rfl
def t_X6_terminate_b144 (E : zE) (k108 : Int32 → Int32 → twS → Option (Int32 × twS)) (p1 : Int32) (p2 : Int32) (s : twS) : Option (Int32 × twS) :=
  k108 p1 (p2 + 1) s
theorem ts_X6_terminate_b144 (E : zE) (q : Nat) (g : zH) {K108 : Nat → Int32 → Int32 → zH → Option (Int32 × zH)} {k108 : Int32 → Int32 → twS → Option (Int32 × twS)} (hk108 : ∀ (p1 : Int32) (p2 : Int32) (s : twS), K108 q p1 p2 (tw s q g) = (k108 p1 p2 s).map (zem q g)) (p1 : Int32) (p2 : Int32) (s : twS) : f_X6_terminate_b144 E K108 q p1 p2 (tw s q g) = (t_X6_terminate_b144 E k108 p1 p2 s).map (zem q g) := by
  unfold f_X6_terminate_b144 t_X6_terminate_b144
  exact hk108 _ _  _
def t_X6_terminate_l108 (E : zE) : Nat → Int32 → Int32 → twS → Option (Int32 × twS)
  | 0, _, _, _ => none
  | n + 1, p1, p2, s =>
    if (900 : Int32) ≤ p2 then (
      bnd2 (t_X6_isOpenTransfer E p1 s) fun x5 s3_ =>
      if x5 = 0 then (
        t_X6_terminate_b168 E s3_
      ) else (
        bnd2 (t_X6_set E p1 (9 : Int32) (3 : Int64) s3_) fun x10 s8_ =>
        t_X6_terminate_b168 E s8_
      )
    ) else (
      (tdL s 1 ((250 : Int32) + p2)).bind fun x13 =>
      if x13 = (p1.toInt64) then (
        (tsL s 1 ((250 : Int32) + p2) (-1 : Int64)).bind fun s18_ =>
        t_X6_terminate_b144 E (t_X6_terminate_l108 E n) p1 p2 s18_
      ) else (
        t_X6_terminate_b144 E (t_X6_terminate_l108 E n) p1 p2 s
      )
    )
theorem ts_X6_terminate_l108 (E : zE) (q : Nat) (g : zH) : ∀ (n : Nat) (p1 : Int32) (p2 : Int32) (s : twS), f_X6_terminate_l108 E n q p1 p2 (tw s q g) = (t_X6_terminate_l108 E n p1 p2 s).map (zem q g) := by
  intro n
  induction n with
  | zero => intros; rfl
  | succ n ih =>
    intro p1 p2 s
    unfold f_X6_terminate_l108 t_X6_terminate_l108
    refine tb6 ?_ ?_
    · refine tb1 (tw_cko _ q g) ?_
      refine tb5 (ts_X6_isOpenTransfer E q g  _  _) fun x5 s3_ => ?_
      refine tb6 ?_ ?_
      · exact ts_X6_terminate_b168 E q g   _
      · refine tb1 (tw_cko _ q g) ?_
        refine tb5 (ts_X6_set E q g  _ _ _  _) fun x10 s8_ => ?_
        exact ts_X6_terminate_b168 E q g   _
    · refine tb1 (tw_gR_0 _ q g) ?_
      refine tb2 (tw_dL _ q g (by decide) _ ) fun x13 => ?_
      refine tb6 ?_ ?_
      · refine tb1 (tw_gR_0 _ q g) ?_
        refine tb4 (tw_sL _ q g (by decide) _ _ ) fun s18_ => ?_
        exact ts_X6_terminate_b144 E q g ih  _ _  _
      · exact ts_X6_terminate_b144 E q g ih  _ _  _
def t_X6_terminate_b100 (E : zE) (k59 : Int32 → Int32 → twS → Option (Int32 × twS)) (p1 : Int32) (p2 : Int32) (s : twS) : Option (Int32 × twS) :=
  k59 p1 (p2 + 1) s
theorem ts_X6_terminate_b100 (E : zE) (q : Nat) (g : zH) {K59 : Nat → Int32 → Int32 → zH → Option (Int32 × zH)} {k59 : Int32 → Int32 → twS → Option (Int32 × twS)} (hk59 : ∀ (p1 : Int32) (p2 : Int32) (s : twS), K59 q p1 p2 (tw s q g) = (k59 p1 p2 s).map (zem q g)) (p1 : Int32) (p2 : Int32) (s : twS) : f_X6_terminate_b100 E K59 q p1 p2 (tw s q g) = (t_X6_terminate_b100 E k59 p1 p2 s).map (zem q g) := by
  unfold f_X6_terminate_b100 t_X6_terminate_b100
  exact hk59 _ _  _
def t_X6_terminate_l59 (E : zE) : Nat → Int32 → Int32 → twS → Option (Int32 × twS)
  | 0, _, _, _ => none
  | n + 1, p1, p2, s =>
    (tdL s 1 (3 : Int32)).bind fun x3 =>
    if x3 ≤ (p2.toInt64) then (
      t_X6_terminate_l108 E E.1 p1 (0 : Int32) s
    ) else (
      bnd2 (t_X6_ofOutlet E p2 (0 : Int32) s) fun x9 s7_ =>
      if x9 = (p1.toInt64) then (
        (tsL s7_ 1 (((186 : Int32) + ((4 : Int32) * p2)) + (0 : Int32)) (-1 : Int64)).bind fun s13_ =>
        t_X6_terminate_b100 E (t_X6_terminate_l59 E n) p1 p2 s13_
      ) else (
        t_X6_terminate_b100 E (t_X6_terminate_l59 E n) p1 p2 s7_
      )
    )
theorem ts_X6_terminate_l59 (E : zE) (q : Nat) (g : zH) : ∀ (n : Nat) (p1 : Int32) (p2 : Int32) (s : twS), f_X6_terminate_l59 E n q p1 p2 (tw s q g) = (t_X6_terminate_l59 E n p1 p2 s).map (zem q g) := by
  intro n
  induction n with
  | zero => intros; rfl
  | succ n ih =>
    intro p1 p2 s
    unfold f_X6_terminate_l59 t_X6_terminate_l59
    refine tb1 (tw_gR_0 _ q g) ?_
    refine tb2 (tw_dL _ q g (by decide) _ ) fun x3 => ?_
    refine tb6 ?_ ?_
    · exact ts_X6_terminate_l108 E q g E.1 _ _  _
    · refine tb1 (tw_cko _ q g) ?_
      refine tb5 (ts_X6_ofOutlet E q g  _ _  _) fun x9 s7_ => ?_
      refine tb6 ?_ ?_
      · refine tb1 (tw_gR_0 _ q g) ?_
        refine tb4 (tw_sL _ q g (by decide) _ _ ) fun s13_ => ?_
        exact ts_X6_terminate_b100 E q g ih  _ _  _
      · exact ts_X6_terminate_b100 E q g ih  _ _  _
def t_X6_terminate_b19 (E : zE) (p1 : Int32) (s1 : Int32) (s : twS) : Option (Int32 × twS) :=
  bnd2 (t_X6_throwsIf E s1 (1 : Int32) s) fun x4 s2_ =>
  if x4 = 0 then (
    bnd2 (t_X6_isActive E p1 s2_) fun x9 s7_ =>
    if x9 = 0 then (
      t_X6_terminate_b48 E s7_
    ) else (
      bnd2 (t_X6_of E p1 (6 : Int32) s7_) fun x14 s12_ =>
      if (3 : Int64) ≤ x14 then (
        bnd2 (t_X6_set E p1 (3 : Int32) (1 : Int64) s12_) fun x19 s17_ =>
        t_X6_terminate_l59 E E.1 p1 (0 : Int32) s17_
      ) else (
        t_X6_terminate_b48 E s12_
      )
    )
  ) else (
    t_X6_terminate_b48 E s2_
  )
theorem ts_X6_terminate_b19 (E : zE) (q : Nat) (g : zH) (p1 : Int32) (s1 : Int32) (s : twS) : f_X6_terminate_b19 E q p1 q s1 (tw s q g) = (t_X6_terminate_b19 E p1 s1 s).map (zem q g) := by
  unfold f_X6_terminate_b19 t_X6_terminate_b19
  refine tb1 (tw_cko _ q g) ?_
  refine tb5 (ts_X6_throwsIf E q g  _ _  _) fun x4 s2_ => ?_
  refine tb6 ?_ ?_
  · refine tb1 (tw_cko _ q g) ?_
    refine tb5 (ts_X6_isActive E q g  _  _) fun x9 s7_ => ?_
    refine tb6 ?_ ?_
    · exact ts_X6_terminate_b48 E q g   _
    · refine tb1 (tw_cko _ q g) ?_
      refine tb5 (ts_X6_of E q g  _ _  _) fun x14 s12_ => ?_
      refine tb6 ?_ ?_
      · refine tb1 (tw_cko _ q g) ?_
        refine tb5 (ts_X6_set E q g  _ _ _  _) fun x19 s17_ => ?_
        exact ts_X6_terminate_l59 E q g E.1 _ _  _
      · exact ts_X6_terminate_b48 E q g   _
  · exact ts_X6_terminate_b48 E q g   _
def t_X6_terminate_b0 (E : zE) (p1 : Int32) (s : twS) : Option (Int32 × twS) :=
  bnd2 (t_X6_isFranchisee E p1 (uSc s 2 (0 : Int32))) fun x6 s4_ =>
  if x6 = 0 then (
    t_X6_terminate_b19 E p1 (1 : Int32) s4_
  ) else (
    t_X6_terminate_b19 E p1 (0 : Int32) s4_
  )
theorem ts_X6_terminate_b0 (E : zE) (q : Nat) (g : zH) (p1 : Int32) (s : twS) : f_X6_terminate_b0 E q p1 (tw s q g) = (t_X6_terminate_b0 E p1 s).map (zem q g) := by
  unfold f_X6_terminate_b0 t_X6_terminate_b0
  refine tb1 (tw_pI_2 _ q g _) ?_
  refine tb1 (tw_cko _ q g) ?_
  refine tb5 (ts_X6_isFranchisee E q g  _  _) fun x6 s4_ => ?_
  refine tb6 ?_ ?_
  · exact ts_X6_terminate_b19 E q g  _ _  _
  · exact ts_X6_terminate_b19 E q g  _ _  _
def t_X6_terminate (E : zE) (p1 : Int32) (s : twS) : Option (Int32 × twS) :=
  t_X6_terminate_b0 E p1 s
theorem ts_X6_terminate (E : zE) (q : Nat) (g : zH) (p1 : Int32) (s : twS) : f_X6_terminate E q p1 (tw s q g) = (t_X6_terminate E p1 s).map (zem q g) := by
  unfold f_X6_terminate t_X6_terminate
  exact ts_X6_terminate_b0 E q g  _  _
def t_X6_status_b37 (E : zE) (s0 : Int32) (s : twS) : Option (Int32 × twS) :=
  some (s0, s)
theorem ts_X6_status_b37 (E : zE) (q : Nat) (g : zH) (s0 : Int32) (s : twS) : f_X6_status_b37 E s0 (tw s q g) = (t_X6_status_b37 E s0 s).map (zem q g) := by
  unfold f_X6_status_b37 t_X6_status_b37
  rfl
def t_X6_status_b19 (E : zE) (p1 : Int32) (s1 : Int32) (s : twS) : Option (Int32 × twS) :=
  bnd2 (t_X6_throwsIf E s1 (1 : Int32) s) fun x4 s2_ =>
  if x4 = 0 then (
    bnd2 (t_X6_of E p1 (3 : Int32) s2_) fun x9 s7_ =>
    t_X6_status_b37 E (x9.toInt32) s7_
  ) else (
    t_X6_status_b37 E (0 : Int32) s2_
  )
theorem ts_X6_status_b19 (E : zE) (q : Nat) (g : zH) (p1 : Int32) (s1 : Int32) (s : twS) : f_X6_status_b19 E q p1 q s1 (tw s q g) = (t_X6_status_b19 E p1 s1 s).map (zem q g) := by
  unfold f_X6_status_b19 t_X6_status_b19
  refine tb1 (tw_cko _ q g) ?_
  refine tb5 (ts_X6_throwsIf E q g  _ _  _) fun x4 s2_ => ?_
  refine tb6 ?_ ?_
  · refine tb1 (tw_cko _ q g) ?_
    refine tb5 (ts_X6_of E q g  _ _  _) fun x9 s7_ => ?_
    exact ts_X6_status_b37 E q g  _  _
  · exact ts_X6_status_b37 E q g  _  _
def t_X6_status_b0 (E : zE) (p1 : Int32) (s : twS) : Option (Int32 × twS) :=
  bnd2 (t_X6_isFranchisee E p1 (uSc s 2 (0 : Int32))) fun x6 s4_ =>
  if x6 = 0 then (
    t_X6_status_b19 E p1 (1 : Int32) s4_
  ) else (
    t_X6_status_b19 E p1 (0 : Int32) s4_
  )
theorem ts_X6_status_b0 (E : zE) (q : Nat) (g : zH) (p1 : Int32) (s : twS) : f_X6_status_b0 E q p1 (tw s q g) = (t_X6_status_b0 E p1 s).map (zem q g) := by
  unfold f_X6_status_b0 t_X6_status_b0
  refine tb1 (tw_pI_2 _ q g _) ?_
  refine tb1 (tw_cko _ q g) ?_
  refine tb5 (ts_X6_isFranchisee E q g  _  _) fun x6 s4_ => ?_
  refine tb6 ?_ ?_
  · exact ts_X6_status_b19 E q g  _ _  _
  · exact ts_X6_status_b19 E q g  _ _  _
def t_X6_status (E : zE) (p1 : Int32) (s : twS) : Option (Int32 × twS) :=
  t_X6_status_b0 E p1 s
theorem ts_X6_status (E : zE) (q : Nat) (g : zH) (p1 : Int32) (s : twS) : f_X6_status E q p1 (tw s q g) = (t_X6_status E p1 s).map (zem q g) := by
  unfold f_X6_status t_X6_status
  exact ts_X6_status_b0 E q g  _  _
def t_X6_allContributions_l4 (E : zE) : Nat → Int64 → Int32 → twS → Option (Int64 × twS)
  | 0, _, _, _ => none
  | n + 1, p1, p3, s =>
    (tdL s 1 (2 : Int32)).bind fun x3 =>
    if x3 ≤ (p3.toInt64) then (
      some (p1, s)
    ) else (
      bnd2 (t_X6_of E p3 (7 : Int32) s) fun x9 s7_ =>
      t_X6_allContributions_l4 E n (p1 + x9) (p3 + 1) s7_
    )
theorem ts_X6_allContributions_l4 (E : zE) (q : Nat) (g : zH) : ∀ (n : Nat) (p1 : Int64) (p3 : Int32) (s : twS), f_X6_allContributions_l4 E n q p1 p3 (tw s q g) = (t_X6_allContributions_l4 E n p1 p3 s).map (zem q g) := by
  intro n
  induction n with
  | zero => intros; rfl
  | succ n ih =>
    intro p1 p3 s
    unfold f_X6_allContributions_l4 t_X6_allContributions_l4
    refine tb1 (tw_gR_0 _ q g) ?_
    refine tb2 (tw_dL _ q g (by decide) _ ) fun x3 => ?_
    refine tb6 ?_ ?_
    · rfl
    · refine tb1 (tw_cko _ q g) ?_
      refine tb5 (ts_X6_of E q g  _ _  _) fun x9 s7_ => ?_
      exact ih _ _  _
def t_X6_allContributions_b0 (E : zE) (s : twS) : Option (Int64 × twS) :=
  t_X6_allContributions_l4 E E.1 (0 : Int64) (0 : Int32) s
theorem ts_X6_allContributions_b0 (E : zE) (q : Nat) (g : zH) (s : twS) : f_X6_allContributions_b0 E q (tw s q g) = (t_X6_allContributions_b0 E  s).map (zem q g) := by
  unfold f_X6_allContributions_b0 t_X6_allContributions_b0
  exact ts_X6_allContributions_l4 E q g E.1 _ _  _
def t_X6_allContributions (E : zE) (s : twS) : Option (Int64 × twS) :=
  t_X6_allContributions_b0 E s
theorem ts_X6_allContributions (E : zE) (q : Nat) (g : zH) (s : twS) : f_X6_allContributions E q (tw s q g) = (t_X6_allContributions E  s).map (zem q g) := by
  unfold f_X6_allContributions t_X6_allContributions
  exact ts_X6_allContributions_b0 E q g   _
def t_X6_fund_b0 (E : zE) (s : twS) : Option (Int64 × twS) :=
  bnd2 (t_X6_allContributions E s) fun x4 s2_ =>
  (tdL s2_ 1 (11 : Int32)).bind fun x7 =>
  (tdL s2_ 1 (12 : Int32)).bind fun x11 =>
  (tdL s2_ 1 (13 : Int32)).bind fun x15 =>
  some ((((x4 - x7) - x11) - x15), s2_)
theorem ts_X6_fund_b0 (E : zE) (q : Nat) (g : zH) (s : twS) : f_X6_fund_b0 E q (tw s q g) = (t_X6_fund_b0 E  s).map (zem q g) := by
  unfold f_X6_fund_b0 t_X6_fund_b0
  refine tb1 (tw_cko _ q g) ?_
  refine tb5 (ts_X6_allContributions E q g   _) fun x4 s2_ => ?_
  refine tb1 (tw_gR_0 _ q g) ?_
  refine tb2 (tw_dL _ q g (by decide) _ ) fun x7 => ?_
  refine tb1 (tw_gR_0 _ q g) ?_
  refine tb2 (tw_dL _ q g (by decide) _ ) fun x11 => ?_
  refine tb1 (tw_gR_0 _ q g) ?_
  refine tb2 (tw_dL _ q g (by decide) _ ) fun x15 => ?_
  rfl
def t_X6_fund (E : zE) (s : twS) : Option (Int64 × twS) :=
  t_X6_fund_b0 E s
theorem ts_X6_fund (E : zE) (q : Nat) (g : zH) (s : twS) : f_X6_fund E q (tw s q g) = (t_X6_fund E  s).map (zem q g) := by
  unfold f_X6_fund t_X6_fund
  exact ts_X6_fund_b0 E q g   _
def t_X6_fundBalance_b0 (E : zE) (s : twS) : Option (Int64 × twS) :=
  bnd2 (t_X6_fund E (uSc s 2 (0 : Int32))) fun x6 s4_ =>
  some (x6, s4_)
theorem ts_X6_fundBalance_b0 (E : zE) (q : Nat) (g : zH) (s : twS) : f_X6_fundBalance_b0 E q (tw s q g) = (t_X6_fundBalance_b0 E  s).map (zem q g) := by
  unfold f_X6_fundBalance_b0 t_X6_fundBalance_b0
  refine tb1 (tw_pI_2 _ q g _) ?_
  refine tb1 (tw_cko _ q g) ?_
  refine tb5 (ts_X6_fund E q g   _) fun x6 s4_ => ?_
  rfl
def t_X6_fundBalance (E : zE) (s : twS) : Option (Int64 × twS) :=
  t_X6_fundBalance_b0 E s
theorem ts_X6_fundBalance (E : zE) (q : Nat) (g : zH) (s : twS) : f_X6_fundBalance E q (tw s q g) = (t_X6_fundBalance E  s).map (zem q g) := by
  unfold f_X6_fundBalance t_X6_fundBalance
  exact ts_X6_fundBalance_b0 E q g   _
def t_X6_contributions_b37 (E : zE) (s0 : Int64) (s : twS) : Option (Int64 × twS) :=
  some (s0, s)
theorem ts_X6_contributions_b37 (E : zE) (q : Nat) (g : zH) (s0 : Int64) (s : twS) : f_X6_contributions_b37 E s0 (tw s q g) = (t_X6_contributions_b37 E s0 s).map (zem q g) := by
  unfold f_X6_contributions_b37 t_X6_contributions_b37
  rfl
def t_X6_contributions_b19 (E : zE) (p1 : Int32) (s1 : Int32) (s : twS) : Option (Int64 × twS) :=
  bnd2 (t_X6_throwsIf E s1 (1 : Int32) s) fun x4 s2_ =>
  if x4 = 0 then (
    bnd2 (t_X6_of E p1 (7 : Int32) s2_) fun x9 s7_ =>
    t_X6_contributions_b37 E x9 s7_
  ) else (
    t_X6_contributions_b37 E (0 : Int64) s2_
  )
theorem ts_X6_contributions_b19 (E : zE) (q : Nat) (g : zH) (p1 : Int32) (s1 : Int32) (s : twS) : f_X6_contributions_b19 E q p1 q s1 (tw s q g) = (t_X6_contributions_b19 E p1 s1 s).map (zem q g) := by
  unfold f_X6_contributions_b19 t_X6_contributions_b19
  refine tb1 (tw_cko _ q g) ?_
  refine tb5 (ts_X6_throwsIf E q g  _ _  _) fun x4 s2_ => ?_
  refine tb6 ?_ ?_
  · refine tb1 (tw_cko _ q g) ?_
    refine tb5 (ts_X6_of E q g  _ _  _) fun x9 s7_ => ?_
    exact ts_X6_contributions_b37 E q g  _  _
  · exact ts_X6_contributions_b37 E q g  _  _
def t_X6_contributions_b0 (E : zE) (p1 : Int32) (s : twS) : Option (Int64 × twS) :=
  bnd2 (t_X6_isFranchisee E p1 (uSc s 2 (0 : Int32))) fun x6 s4_ =>
  if x6 = 0 then (
    t_X6_contributions_b19 E p1 (1 : Int32) s4_
  ) else (
    t_X6_contributions_b19 E p1 (0 : Int32) s4_
  )
theorem ts_X6_contributions_b0 (E : zE) (q : Nat) (g : zH) (p1 : Int32) (s : twS) : f_X6_contributions_b0 E q p1 (tw s q g) = (t_X6_contributions_b0 E p1 s).map (zem q g) := by
  unfold f_X6_contributions_b0 t_X6_contributions_b0
  refine tb1 (tw_pI_2 _ q g _) ?_
  refine tb1 (tw_cko _ q g) ?_
  refine tb5 (ts_X6_isFranchisee E q g  _  _) fun x6 s4_ => ?_
  refine tb6 ?_ ?_
  · exact ts_X6_contributions_b19 E q g  _ _  _
  · exact ts_X6_contributions_b19 E q g  _ _  _
def t_X6_contributions (E : zE) (p1 : Int32) (s : twS) : Option (Int64 × twS) :=
  t_X6_contributions_b0 E p1 s
theorem ts_X6_contributions (E : zE) (q : Nat) (g : zH) (p1 : Int32) (s : twS) : f_X6_contributions E q p1 (tw s q g) = (t_X6_contributions E p1 s).map (zem q g) := by
  unfold f_X6_contributions t_X6_contributions
  exact ts_X6_contributions_b0 E q g  _  _
def t_X6_spent_b43 (E : zE) (s0 : Int64) (s : twS) : Option (Int64 × twS) :=
  some (s0, s)
theorem ts_X6_spent_b43 (E : zE) (q : Nat) (g : zH) (s0 : Int64) (s : twS) : f_X6_spent_b43 E s0 (tw s q g) = (t_X6_spent_b43 E s0 s).map (zem q g) := by
  unfold f_X6_spent_b43 t_X6_spent_b43
  rfl
def t_X6_spent_b23 (E : zE) (p1 : Int32) (s1 : Int32) (s : twS) : Option (Int64 × twS) :=
  bnd2 (t_X6_throwsIf E s1 (1 : Int32) s) fun x4 s2_ =>
  if x4 = 0 then (
    (tdL s2_ 1 ((11 : Int32) + p1)).bind fun x8 =>
    t_X6_spent_b43 E x8 s2_
  ) else (
    t_X6_spent_b43 E (0 : Int64) s2_
  )
theorem ts_X6_spent_b23 (E : zE) (q : Nat) (g : zH) (p1 : Int32) (s1 : Int32) (s : twS) : f_X6_spent_b23 E q p1 q s1 (tw s q g) = (t_X6_spent_b23 E p1 s1 s).map (zem q g) := by
  unfold f_X6_spent_b23 t_X6_spent_b23
  refine tb1 (tw_cko _ q g) ?_
  refine tb5 (ts_X6_throwsIf E q g  _ _  _) fun x4 s2_ => ?_
  refine tb6 ?_ ?_
  · refine tb1 (tw_gR_0 _ q g) ?_
    refine tb2 (tw_dL _ q g (by decide) _ ) fun x8 => ?_
    exact ts_X6_spent_b43 E q g  _  _
  · exact ts_X6_spent_b43 E q g  _  _
def t_X6_spent_b0 (E : zE) (p1 : Int32) (s : twS) : Option (Int64 × twS) :=
  bnd2 (t_X6_inRange E (p1.toInt64) (0 : Int64) (2 : Int64) (uSc s 2 (0 : Int32))) fun x5 s3_ =>
  if x5 = 0 then (
    t_X6_spent_b23 E p1 (1 : Int32) s3_
  ) else (
    t_X6_spent_b23 E p1 (0 : Int32) s3_
  )
theorem ts_X6_spent_b0 (E : zE) (q : Nat) (g : zH) (p1 : Int32) (s : twS) : f_X6_spent_b0 E q p1 (tw s q g) = (t_X6_spent_b0 E p1 s).map (zem q g) := by
  unfold f_X6_spent_b0 t_X6_spent_b0
  refine tb1 (tw_pI_2 _ q g _) ?_
  refine tb5 (ts_X6_inRange E q g  _ _ _  _) fun x5 s3_ => ?_
  refine tb6 ?_ ?_
  · exact ts_X6_spent_b23 E q g  _ _  _
  · exact ts_X6_spent_b23 E q g  _ _  _
def t_X6_spent (E : zE) (p1 : Int32) (s : twS) : Option (Int64 × twS) :=
  t_X6_spent_b0 E p1 s
theorem ts_X6_spent (E : zE) (q : Nat) (g : zH) (p1 : Int32) (s : twS) : f_X6_spent E q p1 (tw s q g) = (t_X6_spent E p1 s).map (zem q g) := by
  unfold f_X6_spent t_X6_spent
  exact ts_X6_spent_b0 E q g  _  _
def t_X6_campaign_b38 (E : zE) (s : twS) : Option (Int32 × twS) :=
  some ((0 : Int32), s)
theorem ts_X6_campaign_b38 (E : zE) (q : Nat) (g : zH) (s : twS) : f_X6_campaign_b38 E  (tw s q g) = (t_X6_campaign_b38 E  s).map (zem q g) := by
  unfold f_X6_campaign_b38 t_X6_campaign_b38
  rfl
def t_X6_campaign_b22 (E : zE) (p1 : Int64) (s1 : Int32) (s : twS) : Option (Int32 × twS) :=
  bnd2 (t_X6_throwsIf E s1 (1 : Int32) s) fun x4 s2_ =>
  if x4 = 0 then (
    bnd2 (t_X6_fund E s2_) fun x9 s7_ =>
    if p1 ≤ x9 then (
      (tdL s7_ 1 (12 : Int32)).bind fun x13 =>
      (tsL s7_ 1 (12 : Int32) (x13 + p1)).bind fun s15_ =>
      some ((1 : Int32), s15_)
    ) else (
      t_X6_campaign_b38 E s7_
    )
  ) else (
    t_X6_campaign_b38 E s2_
  )
theorem ts_X6_campaign_b22 (E : zE) (q : Nat) (g : zH) (p1 : Int64) (s1 : Int32) (s : twS) : f_X6_campaign_b22 E q p1 q s1 (tw s q g) = (t_X6_campaign_b22 E p1 s1 s).map (zem q g) := by
  unfold f_X6_campaign_b22 t_X6_campaign_b22
  refine tb1 (tw_cko _ q g) ?_
  refine tb5 (ts_X6_throwsIf E q g  _ _  _) fun x4 s2_ => ?_
  refine tb6 ?_ ?_
  · refine tb1 (tw_cko _ q g) ?_
    refine tb5 (ts_X6_fund E q g   _) fun x9 s7_ => ?_
    refine tb6 ?_ ?_
    · refine tb1 (tw_gR_0 _ q g) ?_
      refine tb2 (tw_dL _ q g (by decide) _ ) fun x13 => ?_
      refine tb4 (tw_sL _ q g (by decide) _ _ ) fun s15_ => ?_
      rfl
    · exact ts_X6_campaign_b38 E q g   _
  · exact ts_X6_campaign_b38 E q g   _
def t_X6_campaign_b0 (E : zE) (p1 : Int64) (s : twS) : Option (Int32 × twS) :=
  bnd2 (t_X6_inRange E p1 (1 : Int64) (1000000000 : Int64) (uSc s 2 (0 : Int32))) fun x5 s3_ =>
  if x5 = 0 then (
    t_X6_campaign_b22 E p1 (1 : Int32) s3_
  ) else (
    t_X6_campaign_b22 E p1 (0 : Int32) s3_
  )
theorem ts_X6_campaign_b0 (E : zE) (q : Nat) (g : zH) (p1 : Int64) (s : twS) : f_X6_campaign_b0 E q p1 (tw s q g) = (t_X6_campaign_b0 E p1 s).map (zem q g) := by
  unfold f_X6_campaign_b0 t_X6_campaign_b0
  refine tb1 (tw_pI_2 _ q g _) ?_
  refine tb5 (ts_X6_inRange E q g  _ _ _  _) fun x5 s3_ => ?_
  refine tb6 ?_ ?_
  · exact ts_X6_campaign_b22 E q g  _ _  _
  · exact ts_X6_campaign_b22 E q g  _ _  _
def t_X6_campaign (E : zE) (p1 : Int64) (s : twS) : Option (Int32 × twS) :=
  t_X6_campaign_b0 E p1 s
theorem ts_X6_campaign (E : zE) (q : Nat) (g : zH) (p1 : Int64) (s : twS) : f_X6_campaign E q p1 (tw s q g) = (t_X6_campaign E p1 s).map (zem q g) := by
  unfold f_X6_campaign t_X6_campaign
  exact ts_X6_campaign_b0 E q g  _  _
def t_X6_allowanceOf_b0 (E : zE) (p1 : Int32) (s : twS) : Option (Int64 × twS) :=
  bnd2 (t_X6_of E p1 (7 : Int32) s) fun x4 s2_ =>
  bnd2 (t_X6_of E p1 (8 : Int32) s2_) fun x8 s6_ =>
  some (((x4 / (2 : Int64)) - x8), s6_)
theorem ts_X6_allowanceOf_b0 (E : zE) (q : Nat) (g : zH) (p1 : Int32) (s : twS) : f_X6_allowanceOf_b0 E q p1 (tw s q g) = (t_X6_allowanceOf_b0 E p1 s).map (zem q g) := by
  unfold f_X6_allowanceOf_b0 t_X6_allowanceOf_b0
  refine tb1 (tw_cko _ q g) ?_
  refine tb5 (ts_X6_of E q g  _ _  _) fun x4 s2_ => ?_
  refine tb1 (tw_cko _ q g) ?_
  refine tb5 (ts_X6_of E q g  _ _  _) fun x8 s6_ => ?_
  rfl
def t_X6_allowanceOf (E : zE) (p1 : Int32) (s : twS) : Option (Int64 × twS) :=
  t_X6_allowanceOf_b0 E p1 s
theorem ts_X6_allowanceOf (E : zE) (q : Nat) (g : zH) (p1 : Int32) (s : twS) : f_X6_allowanceOf E q p1 (tw s q g) = (t_X6_allowanceOf E p1 s).map (zem q g) := by
  unfold f_X6_allowanceOf t_X6_allowanceOf
  exact ts_X6_allowanceOf_b0 E q g  _  _
def t_X6_grant_b50 (E : zE) (s : twS) : Option (Int32 × twS) :=
  some ((0 : Int32), s)
theorem ts_X6_grant_b50 (E : zE) (q : Nat) (g : zH) (s : twS) : f_X6_grant_b50 E  (tw s q g) = (t_X6_grant_b50 E  s).map (zem q g) := by
  unfold f_X6_grant_b50 t_X6_grant_b50
  rfl
def t_X6_grant_b79 (E : zE) (s : twS) : Option (Int32 × twS) :=
  some ((0 : Int32), s)
theorem ts_X6_grant_b79 (E : zE) (q : Nat) (g : zH) (s : twS) : f_X6_grant_b79 E  (tw s q g) = (t_X6_grant_b79 E  s).map (zem q g) := by
  unfold f_X6_grant_b79 t_X6_grant_b79
  rfl
def t_X6_grant_b43 (E : zE) (p1 : Int32) (p2 : Int64) (s1 : Int32) (s : twS) : Option (Int32 × twS) :=
  bnd2 (t_X6_throwsIf E s1 (2 : Int32) s) fun x4 s2_ =>
  if x4 = 0 then (
    bnd2 (t_X6_isActive E p1 s2_) fun x9 s7_ =>
    if x9 = 0 then (
      t_X6_grant_b79 E s7_
    ) else (
      bnd2 (t_X6_allowanceOf E p1 s7_) fun x14 s12_ =>
      if x14 < p2 then (
        t_X6_grant_b79 E s12_
      ) else (
        bnd2 (t_X6_fund E s12_) fun x19 s17_ =>
        if p2 ≤ x19 then (
          (tdL s17_ 1 (13 : Int32)).bind fun x23 =>
          (tsL s17_ 1 (13 : Int32) (x23 + p2)).bind fun s25_ =>
          bnd2 (t_X6_add E p1 (8 : Int32) p2 s25_) fun x30 s28_ =>
          bnd2 (t_X6_add E p1 (4 : Int32) (-p2) s28_) fun x34 s32_ =>
          some ((1 : Int32), s32_)
        ) else (
          t_X6_grant_b79 E s17_
        )
      )
    )
  ) else (
    t_X6_grant_b50 E s2_
  )
theorem ts_X6_grant_b43 (E : zE) (q : Nat) (g : zH) (p1 : Int32) (p2 : Int64) (s1 : Int32) (s : twS) : f_X6_grant_b43 E q p1 p2 q s1 (tw s q g) = (t_X6_grant_b43 E p1 p2 s1 s).map (zem q g) := by
  unfold f_X6_grant_b43 t_X6_grant_b43
  refine tb1 (tw_cko _ q g) ?_
  refine tb5 (ts_X6_throwsIf E q g  _ _  _) fun x4 s2_ => ?_
  refine tb6 ?_ ?_
  · refine tb1 (tw_cko _ q g) ?_
    refine tb5 (ts_X6_isActive E q g  _  _) fun x9 s7_ => ?_
    refine tb6 ?_ ?_
    · exact ts_X6_grant_b79 E q g   _
    · refine tb1 (tw_cko _ q g) ?_
      refine tb5 (ts_X6_allowanceOf E q g  _  _) fun x14 s12_ => ?_
      refine tb6 ?_ ?_
      · exact ts_X6_grant_b79 E q g   _
      · refine tb1 (tw_cko _ q g) ?_
        refine tb5 (ts_X6_fund E q g   _) fun x19 s17_ => ?_
        refine tb6 ?_ ?_
        · refine tb1 (tw_gR_0 _ q g) ?_
          refine tb2 (tw_dL _ q g (by decide) _ ) fun x23 => ?_
          refine tb4 (tw_sL _ q g (by decide) _ _ ) fun s25_ => ?_
          refine tb1 (tw_cko _ q g) ?_
          refine tb5 (ts_X6_add E q g  _ _ _  _) fun x30 s28_ => ?_
          refine tb1 (tw_cko _ q g) ?_
          refine tb5 (ts_X6_add E q g  _ _ _  _) fun x34 s32_ => ?_
          rfl
        · exact ts_X6_grant_b79 E q g   _
  · exact ts_X6_grant_b50 E q g   _
def t_X6_grant_b19 (E : zE) (p1 : Int32) (p2 : Int64) (s1 : Int32) (s : twS) : Option (Int32 × twS) :=
  bnd2 (t_X6_throwsIf E s1 (1 : Int32) s) fun x4 s2_ =>
  if x4 = 0 then (
    bnd2 (t_X6_inRange E p2 (1 : Int64) (1000000000 : Int64) s2_) fun x8 s6_ =>
    if x8 = 0 then (
      t_X6_grant_b43 E p1 p2 (1 : Int32) s6_
    ) else (
      t_X6_grant_b43 E p1 p2 (0 : Int32) s6_
    )
  ) else (
    t_X6_grant_b50 E s2_
  )
theorem ts_X6_grant_b19 (E : zE) (q : Nat) (g : zH) (p1 : Int32) (p2 : Int64) (s1 : Int32) (s : twS) : f_X6_grant_b19 E q p1 p2 q s1 (tw s q g) = (t_X6_grant_b19 E p1 p2 s1 s).map (zem q g) := by
  unfold f_X6_grant_b19 t_X6_grant_b19
  refine tb1 (tw_cko _ q g) ?_
  refine tb5 (ts_X6_throwsIf E q g  _ _  _) fun x4 s2_ => ?_
  refine tb6 ?_ ?_
  · refine tb5 (ts_X6_inRange E q g  _ _ _  _) fun x8 s6_ => ?_
    refine tb6 ?_ ?_
    · exact ts_X6_grant_b43 E q g  _ _ _  _
    · exact ts_X6_grant_b43 E q g  _ _ _  _
  · exact ts_X6_grant_b50 E q g   _
def t_X6_grant_b0 (E : zE) (p1 : Int32) (p2 : Int64) (s : twS) : Option (Int32 × twS) :=
  bnd2 (t_X6_isFranchisee E p1 (uSc s 2 (0 : Int32))) fun x6 s4_ =>
  if x6 = 0 then (
    t_X6_grant_b19 E p1 p2 (1 : Int32) s4_
  ) else (
    t_X6_grant_b19 E p1 p2 (0 : Int32) s4_
  )
theorem ts_X6_grant_b0 (E : zE) (q : Nat) (g : zH) (p1 : Int32) (p2 : Int64) (s : twS) : f_X6_grant_b0 E q p1 p2 (tw s q g) = (t_X6_grant_b0 E p1 p2 s).map (zem q g) := by
  unfold f_X6_grant_b0 t_X6_grant_b0
  refine tb1 (tw_pI_2 _ q g _) ?_
  refine tb1 (tw_cko _ q g) ?_
  refine tb5 (ts_X6_isFranchisee E q g  _  _) fun x6 s4_ => ?_
  refine tb6 ?_ ?_
  · exact ts_X6_grant_b19 E q g  _ _ _  _
  · exact ts_X6_grant_b19 E q g  _ _ _  _
def t_X6_grant (E : zE) (p1 : Int32) (p2 : Int64) (s : twS) : Option (Int32 × twS) :=
  t_X6_grant_b0 E p1 p2 s
theorem ts_X6_grant (E : zE) (q : Nat) (g : zH) (p1 : Int32) (p2 : Int64) (s : twS) : f_X6_grant E q p1 p2 (tw s q g) = (t_X6_grant E p1 p2 s).map (zem q g) := by
  unfold f_X6_grant t_X6_grant
  exact ts_X6_grant_b0 E q g  _ _  _
def t_X6_allowance_b35 (E : zE) (s0 : Int64) (s : twS) : Option (Int64 × twS) :=
  some (s0, s)
theorem ts_X6_allowance_b35 (E : zE) (q : Nat) (g : zH) (s0 : Int64) (s : twS) : f_X6_allowance_b35 E s0 (tw s q g) = (t_X6_allowance_b35 E s0 s).map (zem q g) := by
  unfold f_X6_allowance_b35 t_X6_allowance_b35
  rfl
def t_X6_allowance_b19 (E : zE) (p1 : Int32) (s1 : Int32) (s : twS) : Option (Int64 × twS) :=
  bnd2 (t_X6_throwsIf E s1 (1 : Int32) s) fun x4 s2_ =>
  if x4 = 0 then (
    bnd2 (t_X6_allowanceOf E p1 s2_) fun x9 s7_ =>
    t_X6_allowance_b35 E x9 s7_
  ) else (
    t_X6_allowance_b35 E (0 : Int64) s2_
  )
theorem ts_X6_allowance_b19 (E : zE) (q : Nat) (g : zH) (p1 : Int32) (s1 : Int32) (s : twS) : f_X6_allowance_b19 E q p1 q s1 (tw s q g) = (t_X6_allowance_b19 E p1 s1 s).map (zem q g) := by
  unfold f_X6_allowance_b19 t_X6_allowance_b19
  refine tb1 (tw_cko _ q g) ?_
  refine tb5 (ts_X6_throwsIf E q g  _ _  _) fun x4 s2_ => ?_
  refine tb6 ?_ ?_
  · refine tb1 (tw_cko _ q g) ?_
    refine tb5 (ts_X6_allowanceOf E q g  _  _) fun x9 s7_ => ?_
    exact ts_X6_allowance_b35 E q g  _  _
  · exact ts_X6_allowance_b35 E q g  _  _
def t_X6_allowance_b0 (E : zE) (p1 : Int32) (s : twS) : Option (Int64 × twS) :=
  bnd2 (t_X6_isFranchisee E p1 (uSc s 2 (0 : Int32))) fun x6 s4_ =>
  if x6 = 0 then (
    t_X6_allowance_b19 E p1 (1 : Int32) s4_
  ) else (
    t_X6_allowance_b19 E p1 (0 : Int32) s4_
  )
theorem ts_X6_allowance_b0 (E : zE) (q : Nat) (g : zH) (p1 : Int32) (s : twS) : f_X6_allowance_b0 E q p1 (tw s q g) = (t_X6_allowance_b0 E p1 s).map (zem q g) := by
  unfold f_X6_allowance_b0 t_X6_allowance_b0
  refine tb1 (tw_pI_2 _ q g _) ?_
  refine tb1 (tw_cko _ q g) ?_
  refine tb5 (ts_X6_isFranchisee E q g  _  _) fun x6 s4_ => ?_
  refine tb6 ?_ ?_
  · exact ts_X6_allowance_b19 E q g  _ _  _
  · exact ts_X6_allowance_b19 E q g  _ _  _
def t_X6_allowance (E : zE) (p1 : Int32) (s : twS) : Option (Int64 × twS) :=
  t_X6_allowance_b0 E p1 s
theorem ts_X6_allowance (E : zE) (q : Nat) (g : zH) (p1 : Int32) (s : twS) : f_X6_allowance E q p1 (tw s q g) = (t_X6_allowance E p1 s).map (zem q g) := by
  unfold f_X6_allowance t_X6_allowance
  exact ts_X6_allowance_b0 E q g  _  _
def t_X6_product_b0 (E : zE) (p1 : Int32) (s : twS) : Option (Int64 × twS) :=
  (tdL s 1 (12 : Int32)).bind fun x3 =>
  bnd2 (t_X6_of E p1 (7 : Int32) s) fun x8 s6_ =>
  some ((x3 * x8), s6_)
theorem ts_X6_product_b0 (E : zE) (q : Nat) (g : zH) (p1 : Int32) (s : twS) : f_X6_product_b0 E q p1 (tw s q g) = (t_X6_product_b0 E p1 s).map (zem q g) := by
  unfold f_X6_product_b0 t_X6_product_b0
  refine tb1 (tw_gR_0 _ q g) ?_
  refine tb2 (tw_dL _ q g (by decide) _ ) fun x3 => ?_
  refine tb1 (tw_cko _ q g) ?_
  refine tb5 (ts_X6_of E q g  _ _  _) fun x8 s6_ => ?_
  rfl
def t_X6_product (E : zE) (p1 : Int32) (s : twS) : Option (Int64 × twS) :=
  t_X6_product_b0 E p1 s
theorem ts_X6_product (E : zE) (q : Nat) (g : zH) (p1 : Int32) (s : twS) : f_X6_product E q p1 (tw s q g) = (t_X6_product E p1 s).map (zem q g) := by
  unfold f_X6_product t_X6_product
  exact ts_X6_product_b0 E q g  _  _
def t_X6_nationalShare_b35 (E : zE) (s : twS) : Option (Int64 × twS) :=
  some ((0 : Int64), s)
theorem ts_X6_nationalShare_b35 (E : zE) (q : Nat) (g : zH) (s : twS) : f_X6_nationalShare_b35 E  (tw s q g) = (t_X6_nationalShare_b35 E  s).map (zem q g) := by
  unfold f_X6_nationalShare_b35 t_X6_nationalShare_b35
  rfl
def t_X6_nationalShare_b157 (E : zE) (s0 : Int64) (s1 : Int64) (s : twS) : Option (Int64 × twS) :=
  some ((s0 + s1), s)
theorem ts_X6_nationalShare_b157 (E : zE) (q : Nat) (g : zH) (s0 : Int64) (s1 : Int64) (s : twS) : f_X6_nationalShare_b157 E s0 s1 (tw s q g) = (t_X6_nationalShare_b157 E s0 s1 s).map (zem q g) := by
  unfold f_X6_nationalShare_b157 t_X6_nationalShare_b157
  rfl
def t_X6_nationalShare_b128 (E : zE) (k57 : Int32 → Int64 → Int64 → Int64 → Int32 → twS → Option (Int64 × twS)) (p1 : Int32) (p2 : Int64) (p4 : Int64) (p8 : Int32) (s0 : Int64) (s1 : Int64) (s : twS) : Option (Int64 × twS) :=
  k57 p1 p2 p4 (s0 + s1) (p8 + 1) s
theorem ts_X6_nationalShare_b128 (E : zE) (q : Nat) (g : zH) {K57 : Nat → Int32 → Int64 → Int64 → Int64 → Int32 → zH → Option (Int64 × zH)} {k57 : Int32 → Int64 → Int64 → Int64 → Int32 → twS → Option (Int64 × twS)} (hk57 : ∀ (p1 : Int32) (p2 : Int64) (p4 : Int64) (p6 : Int64) (p8 : Int32) (s : twS), K57 q p1 p2 p4 p6 p8 (tw s q g) = (k57 p1 p2 p4 p6 p8 s).map (zem q g)) (p1 : Int32) (p2 : Int64) (p4 : Int64) (p8 : Int32) (s0 : Int64) (s1 : Int64) (s : twS) : f_X6_nationalShare_b128 E K57 q p1 p2 p4 p8 s0 s1 (tw s q g) = (t_X6_nationalShare_b128 E k57 p1 p2 p4 p8 s0 s1 s).map (zem q g) := by
  unfold f_X6_nationalShare_b128 t_X6_nationalShare_b128
  exact hk57 _ _ _ _ _  _
def t_X6_nationalShare_b123 (E : zE) (k57 : Int32 → Int64 → Int64 → Int64 → Int32 → twS → Option (Int64 × twS)) (p1 : Int32) (p2 : Int64) (p4 : Int64) (p8 : Int32) (s0 : Int64) (s : twS) : Option (Int64 × twS) :=
  t_X6_nationalShare_b128 E k57 p1 p2 p4 p8 s0 (1 : Int64) s
theorem ts_X6_nationalShare_b123 (E : zE) (q : Nat) (g : zH) {K57 : Nat → Int32 → Int64 → Int64 → Int64 → Int32 → zH → Option (Int64 × zH)} {k57 : Int32 → Int64 → Int64 → Int64 → Int32 → twS → Option (Int64 × twS)} (hk57 : ∀ (p1 : Int32) (p2 : Int64) (p4 : Int64) (p6 : Int64) (p8 : Int32) (s : twS), K57 q p1 p2 p4 p6 p8 (tw s q g) = (k57 p1 p2 p4 p6 p8 s).map (zem q g)) (p1 : Int32) (p2 : Int64) (p4 : Int64) (p8 : Int32) (s0 : Int64) (s : twS) : f_X6_nationalShare_b123 E K57 q p1 p2 p4 p8 s0 (tw s q g) = (t_X6_nationalShare_b123 E k57 p1 p2 p4 p8 s0 s).map (zem q g) := by
  unfold f_X6_nationalShare_b123 t_X6_nationalShare_b123
  exact ts_X6_nationalShare_b128 E q g hk57  _ _ _ _ _ _  _
def t_X6_nationalShare_b127 (E : zE) (k57 : Int32 → Int64 → Int64 → Int64 → Int32 → twS → Option (Int64 × twS)) (p1 : Int32) (p2 : Int64) (p4 : Int64) (p8 : Int32) (s0 : Int64) (s : twS) : Option (Int64 × twS) :=
  t_X6_nationalShare_b128 E k57 p1 p2 p4 p8 s0 (0 : Int64) s
theorem ts_X6_nationalShare_b127 (E : zE) (q : Nat) (g : zH) {K57 : Nat → Int32 → Int64 → Int64 → Int64 → Int32 → zH → Option (Int64 × zH)} {k57 : Int32 → Int64 → Int64 → Int64 → Int32 → twS → Option (Int64 × twS)} (hk57 : ∀ (p1 : Int32) (p2 : Int64) (p4 : Int64) (p6 : Int64) (p8 : Int32) (s : twS), K57 q p1 p2 p4 p6 p8 (tw s q g) = (k57 p1 p2 p4 p6 p8 s).map (zem q g)) (p1 : Int32) (p2 : Int64) (p4 : Int64) (p8 : Int32) (s0 : Int64) (s : twS) : f_X6_nationalShare_b127 E K57 q p1 p2 p4 p8 s0 (tw s q g) = (t_X6_nationalShare_b127 E k57 p1 p2 p4 p8 s0 s).map (zem q g) := by
  unfold f_X6_nationalShare_b127 t_X6_nationalShare_b127
  exact ts_X6_nationalShare_b128 E q g hk57  _ _ _ _ _ _  _
def t_X6_nationalShare_l57 (E : zE) : Nat → Int32 → Int64 → Int64 → Int64 → Int32 → twS → Option (Int64 × twS)
  | 0, _, _, _, _, _, _ => none
  | n + 1, p1, p2, p4, p6, p8, s =>
    (tdL s 1 (2 : Int32)).bind fun x3 =>
    if x3 ≤ (p8.toInt64) then (
      bnd2 (t_X6_product E p1 s) fun x9 s7_ =>
      (zn0L p2).bind fun _ =>
      if p4 ≤ p6 then (
        t_X6_nationalShare_b157 E (x9 / p2) (0 : Int64) s7_
      ) else (
        t_X6_nationalShare_b157 E (x9 / p2) (1 : Int64) s7_
      )
    ) else (
      bnd2 (t_X6_product E p8 s) fun x15 s13_ =>
      (zn0L p2).bind fun _ =>
      bnd2 (t_X6_product E p8 s13_) fun x20 s18_ =>
      (zn0L p2).bind fun _ =>
      bnd2 (t_X6_product E p1 s18_) fun x25 s23_ =>
      (zn0L p2).bind fun _ =>
      if (0 : Int64) < ((x20 - x20 / p2 * p2) - (x25 - x25 / p2 * p2)) then (
        t_X6_nationalShare_b123 E (t_X6_nationalShare_l57 E n) p1 p2 (p4 - (x15 / p2)) p8 p6 s23_
      ) else (
        if ((x20 - x20 / p2 * p2) - (x25 - x25 / p2 * p2)) = (0 : Int64) then (
          if p1 ≤ p8 then (
            t_X6_nationalShare_b127 E (t_X6_nationalShare_l57 E n) p1 p2 (p4 - (x15 / p2)) p8 p6 s23_
          ) else (
            t_X6_nationalShare_b123 E (t_X6_nationalShare_l57 E n) p1 p2 (p4 - (x15 / p2)) p8 p6 s23_
          )
        ) else (
          t_X6_nationalShare_b127 E (t_X6_nationalShare_l57 E n) p1 p2 (p4 - (x15 / p2)) p8 p6 s23_
        )
      )
    )
theorem ts_X6_nationalShare_l57 (E : zE) (q : Nat) (g : zH) : ∀ (n : Nat) (p1 : Int32) (p2 : Int64) (p4 : Int64) (p6 : Int64) (p8 : Int32) (s : twS), f_X6_nationalShare_l57 E n q p1 p2 p4 p6 p8 (tw s q g) = (t_X6_nationalShare_l57 E n p1 p2 p4 p6 p8 s).map (zem q g) := by
  intro n
  induction n with
  | zero => intros; rfl
  | succ n ih =>
    intro p1 p2 p4 p6 p8 s
    unfold f_X6_nationalShare_l57 t_X6_nationalShare_l57
    refine tb1 (tw_gR_0 _ q g) ?_
    refine tb2 (tw_dL _ q g (by decide) _ ) fun x3 => ?_
    refine tb6 ?_ ?_
    · refine tb1 (tw_cko _ q g) ?_
      refine tb5 (ts_X6_product E q g  _  _) fun x9 s7_ => ?_
      refine tb2 rfl fun _ => ?_
      refine tb6 ?_ ?_
      · exact ts_X6_nationalShare_b157 E q g  _ _  _
      · exact ts_X6_nationalShare_b157 E q g  _ _  _
    · refine tb1 (tw_cko _ q g) ?_
      refine tb5 (ts_X6_product E q g  _  _) fun x15 s13_ => ?_
      refine tb2 rfl fun _ => ?_
      refine tb1 (tw_cko _ q g) ?_
      refine tb5 (ts_X6_product E q g  _  _) fun x20 s18_ => ?_
      refine tb2 rfl fun _ => ?_
      refine tb1 (tw_cko _ q g) ?_
      refine tb5 (ts_X6_product E q g  _  _) fun x25 s23_ => ?_
      refine tb2 rfl fun _ => ?_
      refine tb6 ?_ ?_
      · exact ts_X6_nationalShare_b123 E q g ih  _ _ _ _ _  _
      · refine tb6 ?_ ?_
        · refine tb6 ?_ ?_
          · exact ts_X6_nationalShare_b127 E q g ih  _ _ _ _ _  _
          · exact ts_X6_nationalShare_b123 E q g ih  _ _ _ _ _  _
        · exact ts_X6_nationalShare_b127 E q g ih  _ _ _ _ _  _
def t_X6_nationalShare_b19 (E : zE) (p1 : Int32) (s1 : Int32) (s : twS) : Option (Int64 × twS) :=
  bnd2 (t_X6_throwsIf E s1 (1 : Int32) s) fun x4 s2_ =>
  if x4 = 0 then (
    bnd2 (t_X6_allContributions E s2_) fun x9 s7_ =>
    if x9 = (0 : Int64) then (
      t_X6_nationalShare_b35 E s7_
    ) else (
      bnd2 (t_X6_allContributions E s7_) fun x14 s12_ =>
      (tdL s12_ 1 (12 : Int32)).bind fun x17 =>
      t_X6_nationalShare_l57 E E.1 p1 x14 x17 (0 : Int64) (0 : Int32) s12_
    )
  ) else (
    t_X6_nationalShare_b35 E s2_
  )
theorem ts_X6_nationalShare_b19 (E : zE) (q : Nat) (g : zH) (p1 : Int32) (s1 : Int32) (s : twS) : f_X6_nationalShare_b19 E q p1 q s1 (tw s q g) = (t_X6_nationalShare_b19 E p1 s1 s).map (zem q g) := by
  unfold f_X6_nationalShare_b19 t_X6_nationalShare_b19
  refine tb1 (tw_cko _ q g) ?_
  refine tb5 (ts_X6_throwsIf E q g  _ _  _) fun x4 s2_ => ?_
  refine tb6 ?_ ?_
  · refine tb1 (tw_cko _ q g) ?_
    refine tb5 (ts_X6_allContributions E q g   _) fun x9 s7_ => ?_
    refine tb6 ?_ ?_
    · exact ts_X6_nationalShare_b35 E q g   _
    · refine tb1 (tw_cko _ q g) ?_
      refine tb5 (ts_X6_allContributions E q g   _) fun x14 s12_ => ?_
      refine tb1 (tw_gR_0 _ q g) ?_
      refine tb2 (tw_dL _ q g (by decide) _ ) fun x17 => ?_
      exact ts_X6_nationalShare_l57 E q g E.1 _ _ _ _ _  _
  · exact ts_X6_nationalShare_b35 E q g   _
def t_X6_nationalShare_b0 (E : zE) (p1 : Int32) (s : twS) : Option (Int64 × twS) :=
  bnd2 (t_X6_isFranchisee E p1 (uSc s 2 (0 : Int32))) fun x6 s4_ =>
  if x6 = 0 then (
    t_X6_nationalShare_b19 E p1 (1 : Int32) s4_
  ) else (
    t_X6_nationalShare_b19 E p1 (0 : Int32) s4_
  )
theorem ts_X6_nationalShare_b0 (E : zE) (q : Nat) (g : zH) (p1 : Int32) (s : twS) : f_X6_nationalShare_b0 E q p1 (tw s q g) = (t_X6_nationalShare_b0 E p1 s).map (zem q g) := by
  unfold f_X6_nationalShare_b0 t_X6_nationalShare_b0
  refine tb1 (tw_pI_2 _ q g _) ?_
  refine tb1 (tw_cko _ q g) ?_
  refine tb5 (ts_X6_isFranchisee E q g  _  _) fun x6 s4_ => ?_
  refine tb6 ?_ ?_
  · exact ts_X6_nationalShare_b19 E q g  _ _  _
  · exact ts_X6_nationalShare_b19 E q g  _ _  _
def t_X6_nationalShare (E : zE) (p1 : Int32) (s : twS) : Option (Int64 × twS) :=
  t_X6_nationalShare_b0 E p1 s
theorem ts_X6_nationalShare (E : zE) (q : Nat) (g : zH) (p1 : Int32) (s : twS) : f_X6_nationalShare E q p1 (tw s q g) = (t_X6_nationalShare E p1 s).map (zem q g) := by
  unfold f_X6_nationalShare t_X6_nationalShare
  exact ts_X6_nationalShare_b0 E q g  _  _
def t_X6_requestTransfer_b62 (E : zE) (s : twS) : Option (Int32 × twS) :=
  some ((0 : Int32), s)
theorem ts_X6_requestTransfer_b62 (E : zE) (q : Nat) (g : zH) (s : twS) : f_X6_requestTransfer_b62 E  (tw s q g) = (t_X6_requestTransfer_b62 E  s).map (zem q g) := by
  unfold f_X6_requestTransfer_b62 t_X6_requestTransfer_b62
  rfl
def t_X6_requestTransfer_b104 (E : zE) (s : twS) : Option (Int32 × twS) :=
  some ((0 : Int32), s)
theorem ts_X6_requestTransfer_b104 (E : zE) (q : Nat) (g : zH) (s : twS) : f_X6_requestTransfer_b104 E  (tw s q g) = (t_X6_requestTransfer_b104 E  s).map (zem q g) := by
  unfold f_X6_requestTransfer_b104 t_X6_requestTransfer_b104
  rfl
def t_X6_requestTransfer_b55 (E : zE) (p1 : Int32) (p2 : Int32) (p3 : Int64) (s1 : Int32) (s : twS) : Option (Int32 × twS) :=
  bnd2 (t_X6_throwsIf E s1 (2 : Int32) s) fun x4 s2_ =>
  if x4 = 0 then (
    bnd2 (t_X6_isActive E p1 s2_) fun x9 s7_ =>
    if x9 = 0 then (
      t_X6_requestTransfer_b104 E s7_
    ) else (
      bnd2 (t_X6_isOpenTransfer E p1 s7_) fun x14 s12_ =>
      if x14 = 0 then (
        bnd2 (t_X6_of E p1 (4 : Int32) s12_) fun x19 s17_ =>
        if (0 : Int64) < x19 then (
          t_X6_requestTransfer_b104 E s17_
        ) else (
          (tdL s17_ 1 (10 : Int32)).bind fun x23 =>
          if x23 ≤ (p2.toInt64) then (
            bnd2 (t_X6_set E p1 (9 : Int32) (1 : Int64) s17_) fun x29 s27_ =>
            bnd2 (t_X6_set E p1 (10 : Int32) (p2.toInt64) s27_) fun x33 s31_ =>
            bnd2 (t_X6_set E p1 (11 : Int32) p3 s31_) fun x37 s35_ =>
            (tdL s35_ 1 (0 : Int32)).bind fun x40 =>
            bnd2 (t_X6_set E p1 (12 : Int32) x40 s35_) fun x45 s43_ =>
            bnd2 (t_X6_set E p1 (13 : Int32) (0 : Int64) s43_) fun x49 s47_ =>
            bnd2 (t_X6_set E p1 (14 : Int32) (0 : Int64) s47_) fun x53 s51_ =>
            bnd2 (t_X6_set E p1 (15 : Int32) (0 : Int64) s51_) fun x57 s55_ =>
            some ((1 : Int32), s55_)
          ) else (
            t_X6_requestTransfer_b104 E s17_
          )
        )
      ) else (
        t_X6_requestTransfer_b104 E s12_
      )
    )
  ) else (
    t_X6_requestTransfer_b62 E s2_
  )
theorem ts_X6_requestTransfer_b55 (E : zE) (q : Nat) (g : zH) (p1 : Int32) (p2 : Int32) (p3 : Int64) (s1 : Int32) (s : twS) : f_X6_requestTransfer_b55 E q p1 p2 p3 q s1 (tw s q g) = (t_X6_requestTransfer_b55 E p1 p2 p3 s1 s).map (zem q g) := by
  unfold f_X6_requestTransfer_b55 t_X6_requestTransfer_b55
  refine tb1 (tw_cko _ q g) ?_
  refine tb5 (ts_X6_throwsIf E q g  _ _  _) fun x4 s2_ => ?_
  refine tb6 ?_ ?_
  · refine tb1 (tw_cko _ q g) ?_
    refine tb5 (ts_X6_isActive E q g  _  _) fun x9 s7_ => ?_
    refine tb6 ?_ ?_
    · exact ts_X6_requestTransfer_b104 E q g   _
    · refine tb1 (tw_cko _ q g) ?_
      refine tb5 (ts_X6_isOpenTransfer E q g  _  _) fun x14 s12_ => ?_
      refine tb6 ?_ ?_
      · refine tb1 (tw_cko _ q g) ?_
        refine tb5 (ts_X6_of E q g  _ _  _) fun x19 s17_ => ?_
        refine tb6 ?_ ?_
        · exact ts_X6_requestTransfer_b104 E q g   _
        · refine tb1 (tw_gR_0 _ q g) ?_
          refine tb2 (tw_dL _ q g (by decide) _ ) fun x23 => ?_
          refine tb6 ?_ ?_
          · refine tb1 (tw_cko _ q g) ?_
            refine tb5 (ts_X6_set E q g  _ _ _  _) fun x29 s27_ => ?_
            refine tb1 (tw_cko _ q g) ?_
            refine tb5 (ts_X6_set E q g  _ _ _  _) fun x33 s31_ => ?_
            refine tb1 (tw_cko _ q g) ?_
            refine tb5 (ts_X6_set E q g  _ _ _  _) fun x37 s35_ => ?_
            refine tb1 (tw_gR_0 _ q g) ?_
            refine tb2 (tw_dL _ q g (by decide) _ ) fun x40 => ?_
            refine tb1 (tw_cko _ q g) ?_
            refine tb5 (ts_X6_set E q g  _ _ _  _) fun x45 s43_ => ?_
            refine tb1 (tw_cko _ q g) ?_
            refine tb5 (ts_X6_set E q g  _ _ _  _) fun x49 s47_ => ?_
            refine tb1 (tw_cko _ q g) ?_
            refine tb5 (ts_X6_set E q g  _ _ _  _) fun x53 s51_ => ?_
            refine tb1 (tw_cko _ q g) ?_
            refine tb5 (ts_X6_set E q g  _ _ _  _) fun x57 s55_ => ?_
            rfl
          · exact ts_X6_requestTransfer_b104 E q g   _
      · exact ts_X6_requestTransfer_b104 E q g   _
  · exact ts_X6_requestTransfer_b62 E q g   _
def t_X6_requestTransfer_b50 (E : zE) (p1 : Int32) (p2 : Int32) (p3 : Int64) (s : twS) : Option (Int32 × twS) :=
  t_X6_requestTransfer_b55 E p1 p2 p3 (1 : Int32) s
theorem ts_X6_requestTransfer_b50 (E : zE) (q : Nat) (g : zH) (p1 : Int32) (p2 : Int32) (p3 : Int64) (s : twS) : f_X6_requestTransfer_b50 E q p1 p2 p3 q (tw s q g) = (t_X6_requestTransfer_b50 E p1 p2 p3 s).map (zem q g) := by
  unfold f_X6_requestTransfer_b50 t_X6_requestTransfer_b50
  exact ts_X6_requestTransfer_b55 E q g  _ _ _ _  _
def t_X6_requestTransfer_b19 (E : zE) (p1 : Int32) (p2 : Int32) (p3 : Int64) (s1 : Int32) (s : twS) : Option (Int32 × twS) :=
  bnd2 (t_X6_throwsIf E s1 (1 : Int32) s) fun x4 s2_ =>
  if x4 = 0 then (
    bnd2 (t_X6_inRange E (p2.toInt64) (0 : Int64) (999 : Int64) s2_) fun x8 s6_ =>
    if x8 = 0 then (
      t_X6_requestTransfer_b50 E p1 p2 p3 s6_
    ) else (
      bnd2 (t_X6_inRange E p3 (0 : Int64) (1000000000 : Int64) s6_) fun x12 s10_ =>
      if x12 = 0 then (
        t_X6_requestTransfer_b50 E p1 p2 p3 s10_
      ) else (
        t_X6_requestTransfer_b55 E p1 p2 p3 (0 : Int32) s10_
      )
    )
  ) else (
    t_X6_requestTransfer_b62 E s2_
  )
theorem ts_X6_requestTransfer_b19 (E : zE) (q : Nat) (g : zH) (p1 : Int32) (p2 : Int32) (p3 : Int64) (s1 : Int32) (s : twS) : f_X6_requestTransfer_b19 E q p1 p2 p3 q s1 (tw s q g) = (t_X6_requestTransfer_b19 E p1 p2 p3 s1 s).map (zem q g) := by
  unfold f_X6_requestTransfer_b19 t_X6_requestTransfer_b19
  refine tb1 (tw_cko _ q g) ?_
  refine tb5 (ts_X6_throwsIf E q g  _ _  _) fun x4 s2_ => ?_
  refine tb6 ?_ ?_
  · refine tb5 (ts_X6_inRange E q g  _ _ _  _) fun x8 s6_ => ?_
    refine tb6 ?_ ?_
    · exact ts_X6_requestTransfer_b50 E q g  _ _ _  _
    · refine tb5 (ts_X6_inRange E q g  _ _ _  _) fun x12 s10_ => ?_
      refine tb6 ?_ ?_
      · exact ts_X6_requestTransfer_b50 E q g  _ _ _  _
      · exact ts_X6_requestTransfer_b55 E q g  _ _ _ _  _
  · exact ts_X6_requestTransfer_b62 E q g   _
def t_X6_requestTransfer_b0 (E : zE) (p1 : Int32) (p2 : Int32) (p3 : Int64) (s : twS) : Option (Int32 × twS) :=
  bnd2 (t_X6_isFranchisee E p1 (uSc s 2 (0 : Int32))) fun x6 s4_ =>
  if x6 = 0 then (
    t_X6_requestTransfer_b19 E p1 p2 p3 (1 : Int32) s4_
  ) else (
    t_X6_requestTransfer_b19 E p1 p2 p3 (0 : Int32) s4_
  )
theorem ts_X6_requestTransfer_b0 (E : zE) (q : Nat) (g : zH) (p1 : Int32) (p2 : Int32) (p3 : Int64) (s : twS) : f_X6_requestTransfer_b0 E q p1 p2 p3 (tw s q g) = (t_X6_requestTransfer_b0 E p1 p2 p3 s).map (zem q g) := by
  unfold f_X6_requestTransfer_b0 t_X6_requestTransfer_b0
  refine tb1 (tw_pI_2 _ q g _) ?_
  refine tb1 (tw_cko _ q g) ?_
  refine tb5 (ts_X6_isFranchisee E q g  _  _) fun x6 s4_ => ?_
  refine tb6 ?_ ?_
  · exact ts_X6_requestTransfer_b19 E q g  _ _ _ _  _
  · exact ts_X6_requestTransfer_b19 E q g  _ _ _ _  _
def t_X6_requestTransfer (E : zE) (p1 : Int32) (p2 : Int32) (p3 : Int64) (s : twS) : Option (Int32 × twS) :=
  t_X6_requestTransfer_b0 E p1 p2 p3 s
theorem ts_X6_requestTransfer (E : zE) (q : Nat) (g : zH) (p1 : Int32) (p2 : Int32) (p3 : Int64) (s : twS) : f_X6_requestTransfer E q p1 p2 p3 (tw s q g) = (t_X6_requestTransfer E p1 p2 p3 s).map (zem q g) := by
  unfold f_X6_requestTransfer t_X6_requestTransfer
  exact ts_X6_requestTransfer_b0 E q g  _ _ _  _
def t_X6_vote_b51 (E : zE) (s : twS) : Option (Int32 × twS) :=
  some ((0 : Int32), s)
theorem ts_X6_vote_b51 (E : zE) (q : Nat) (g : zH) (s : twS) : f_X6_vote_b51 E  (tw s q g) = (t_X6_vote_b51 E  s).map (zem q g) := by
  unfold f_X6_vote_b51 t_X6_vote_b51
  rfl
def t_X6_vote_b81 (E : zE) (s : twS) : Option (Int32 × twS) :=
  some ((-1 : Int32), s)
theorem ts_X6_vote_b81 (E : zE) (q : Nat) (g : zH) (s : twS) : f_X6_vote_b81 E  (tw s q g) = (t_X6_vote_b81 E  s).map (zem q g) := by
  unfold f_X6_vote_b81 t_X6_vote_b81
  rfl
def t_X6_vote_b158 (E : zE) (p1 : Int32) (s : twS) : Option (Int32 × twS) :=
  bnd2 (t_X6_of E p1 (9 : Int32) s) fun x4 s2_ =>
  some ((x4.toInt32), s2_)
theorem ts_X6_vote_b158 (E : zE) (q : Nat) (g : zH) (p1 : Int32) (s : twS) : f_X6_vote_b158 E q p1 (tw s q g) = (t_X6_vote_b158 E p1 s).map (zem q g) := by
  unfold f_X6_vote_b158 t_X6_vote_b158
  refine tb1 (tw_cko _ q g) ?_
  refine tb5 (ts_X6_of E q g  _ _  _) fun x4 s2_ => ?_
  rfl
def t_X6_vote_b134 (E : zE) (p1 : Int32) (s : twS) : Option (Int32 × twS) :=
  bnd2 (t_X6_of E p1 (15 : Int32) s) fun x4 s2_ =>
  if x4 = (3 : Int64) then (
    bnd2 (t_X6_set E p1 (9 : Int32) (3 : Int64) s2_) fun x9 s7_ =>
    t_X6_vote_b158 E p1 s7_
  ) else (
    t_X6_vote_b158 E p1 s2_
  )
theorem ts_X6_vote_b134 (E : zE) (q : Nat) (g : zH) (p1 : Int32) (s : twS) : f_X6_vote_b134 E q p1 (tw s q g) = (t_X6_vote_b134 E p1 s).map (zem q g) := by
  unfold f_X6_vote_b134 t_X6_vote_b134
  refine tb1 (tw_cko _ q g) ?_
  refine tb5 (ts_X6_of E q g  _ _  _) fun x4 s2_ => ?_
  refine tb6 ?_ ?_
  · refine tb1 (tw_cko _ q g) ?_
    refine tb5 (ts_X6_set E q g  _ _ _  _) fun x9 s7_ => ?_
    exact ts_X6_vote_b158 E q g  _  _
  · exact ts_X6_vote_b158 E q g  _  _
def t_X6_vote_b106 (E : zE) (p1 : Int32) (s1 : Int32) (s2 : Int32) (s : twS) : Option (Int32 × twS) :=
  bnd2 (t_X6_add E s1 s2 (1 : Int64) s) fun x4 s2_ =>
  bnd2 (t_X6_of E p1 (14 : Int32) s2_) fun x8 s6_ =>
  if x8 = (3 : Int64) then (
    bnd2 (t_X6_set E p1 (9 : Int32) (2 : Int64) s6_) fun x13 s11_ =>
    t_X6_vote_b134 E p1 s11_
  ) else (
    t_X6_vote_b134 E p1 s6_
  )
theorem ts_X6_vote_b106 (E : zE) (q : Nat) (g : zH) (p1 : Int32) (s1 : Int32) (s2 : Int32) (s : twS) : f_X6_vote_b106 E q p1 q s1 s2 (tw s q g) = (t_X6_vote_b106 E p1 s1 s2 s).map (zem q g) := by
  unfold f_X6_vote_b106 t_X6_vote_b106
  refine tb1 (tw_cko _ q g) ?_
  refine tb5 (ts_X6_add E q g  _ _ _  _) fun x4 s2_ => ?_
  refine tb1 (tw_cko _ q g) ?_
  refine tb5 (ts_X6_of E q g  _ _  _) fun x8 s6_ => ?_
  refine tb6 ?_ ?_
  · refine tb1 (tw_cko _ q g) ?_
    refine tb5 (ts_X6_set E q g  _ _ _  _) fun x13 s11_ => ?_
    exact ts_X6_vote_b134 E q g  _  _
  · exact ts_X6_vote_b134 E q g  _  _
def t_X6_vote_b44 (E : zE) (p1 : Int32) (p2 : Int32) (p3 : Int32) (s1 : Int32) (s : twS) : Option (Int32 × twS) :=
  bnd2 (t_X6_throwsIf E s1 (2 : Int32) s) fun x4 s2_ =>
  if x4 = 0 then (
    bnd2 (t_X6_of E p1 (9 : Int32) s2_) fun x9 s7_ =>
    if x9 = (1 : Int64) then (
      bnd2 (t_X6_of E p1 (13 : Int32) s7_) fun x14 s12_ =>
      if ((x14 >>> (p2.toInt64 &&& 63)) &&& (1 : Int64)) = (1 : Int64) then (
        t_X6_vote_b81 E s12_
      ) else (
        bnd2 (t_X6_add E p1 (13 : Int32) ((1 : Int64) <<< (p2.toInt64 &&& 63)) s12_) fun x19 s17_ =>
        if p3 = 0 then (
          t_X6_vote_b106 E p1 p1 (15 : Int32) s17_
        ) else (
          t_X6_vote_b106 E p1 p1 (14 : Int32) s17_
        )
      )
    ) else (
      t_X6_vote_b81 E s7_
    )
  ) else (
    t_X6_vote_b51 E s2_
  )
theorem ts_X6_vote_b44 (E : zE) (q : Nat) (g : zH) (p1 : Int32) (p2 : Int32) (p3 : Int32) (s1 : Int32) (s : twS) : f_X6_vote_b44 E q p1 p2 p3 q s1 (tw s q g) = (t_X6_vote_b44 E p1 p2 p3 s1 s).map (zem q g) := by
  unfold f_X6_vote_b44 t_X6_vote_b44
  refine tb1 (tw_cko _ q g) ?_
  refine tb5 (ts_X6_throwsIf E q g  _ _  _) fun x4 s2_ => ?_
  refine tb6 ?_ ?_
  · refine tb1 (tw_cko _ q g) ?_
    refine tb5 (ts_X6_of E q g  _ _  _) fun x9 s7_ => ?_
    refine tb6 ?_ ?_
    · refine tb1 (tw_cko _ q g) ?_
      refine tb5 (ts_X6_of E q g  _ _  _) fun x14 s12_ => ?_
      refine tb6 ?_ ?_
      · exact ts_X6_vote_b81 E q g   _
      · refine tb1 (tw_cko _ q g) ?_
        refine tb5 (ts_X6_add E q g  _ _ _  _) fun x19 s17_ => ?_
        refine tb6 ?_ ?_
        · exact ts_X6_vote_b106 E q g  _ _ _  _
        · exact ts_X6_vote_b106 E q g  _ _ _  _
    · exact ts_X6_vote_b81 E q g   _
  · exact ts_X6_vote_b51 E q g   _
def t_X6_vote_b19 (E : zE) (p1 : Int32) (p2 : Int32) (p3 : Int32) (s1 : Int32) (s : twS) : Option (Int32 × twS) :=
  bnd2 (t_X6_throwsIf E s1 (1 : Int32) s) fun x4 s2_ =>
  if x4 = 0 then (
    bnd2 (t_X6_inRange E (p2.toInt64) (0 : Int64) (4 : Int64) s2_) fun x8 s6_ =>
    if x8 = 0 then (
      t_X6_vote_b44 E p1 p2 p3 (1 : Int32) s6_
    ) else (
      t_X6_vote_b44 E p1 p2 p3 (0 : Int32) s6_
    )
  ) else (
    t_X6_vote_b51 E s2_
  )
theorem ts_X6_vote_b19 (E : zE) (q : Nat) (g : zH) (p1 : Int32) (p2 : Int32) (p3 : Int32) (s1 : Int32) (s : twS) : f_X6_vote_b19 E q p1 p2 p3 q s1 (tw s q g) = (t_X6_vote_b19 E p1 p2 p3 s1 s).map (zem q g) := by
  unfold f_X6_vote_b19 t_X6_vote_b19
  refine tb1 (tw_cko _ q g) ?_
  refine tb5 (ts_X6_throwsIf E q g  _ _  _) fun x4 s2_ => ?_
  refine tb6 ?_ ?_
  · refine tb5 (ts_X6_inRange E q g  _ _ _  _) fun x8 s6_ => ?_
    refine tb6 ?_ ?_
    · exact ts_X6_vote_b44 E q g  _ _ _ _  _
    · exact ts_X6_vote_b44 E q g  _ _ _ _  _
  · exact ts_X6_vote_b51 E q g   _
def t_X6_vote_b0 (E : zE) (p1 : Int32) (p2 : Int32) (p3 : Int32) (s : twS) : Option (Int32 × twS) :=
  bnd2 (t_X6_isFranchisee E p1 (uSc s 2 (0 : Int32))) fun x6 s4_ =>
  if x6 = 0 then (
    t_X6_vote_b19 E p1 p2 p3 (1 : Int32) s4_
  ) else (
    t_X6_vote_b19 E p1 p2 p3 (0 : Int32) s4_
  )
theorem ts_X6_vote_b0 (E : zE) (q : Nat) (g : zH) (p1 : Int32) (p2 : Int32) (p3 : Int32) (s : twS) : f_X6_vote_b0 E q p1 p2 p3 (tw s q g) = (t_X6_vote_b0 E p1 p2 p3 s).map (zem q g) := by
  unfold f_X6_vote_b0 t_X6_vote_b0
  refine tb1 (tw_pI_2 _ q g _) ?_
  refine tb1 (tw_cko _ q g) ?_
  refine tb5 (ts_X6_isFranchisee E q g  _  _) fun x6 s4_ => ?_
  refine tb6 ?_ ?_
  · exact ts_X6_vote_b19 E q g  _ _ _ _  _
  · exact ts_X6_vote_b19 E q g  _ _ _ _  _
def t_X6_vote (E : zE) (p1 : Int32) (p2 : Int32) (p3 : Int32) (s : twS) : Option (Int32 × twS) :=
  t_X6_vote_b0 E p1 p2 p3 s
theorem ts_X6_vote (E : zE) (q : Nat) (g : zH) (p1 : Int32) (p2 : Int32) (p3 : Int32) (s : twS) : f_X6_vote E q p1 p2 p3 (tw s q g) = (t_X6_vote E p1 p2 p3 s).map (zem q g) := by
  unfold f_X6_vote t_X6_vote
  exact ts_X6_vote_b0 E q g  _ _ _  _
def t_X6_exercise_b42 (E : zE) (s : twS) : Option (Int32 × twS) :=
  some ((0 : Int32), s)
theorem ts_X6_exercise_b42 (E : zE) (q : Nat) (g : zH) (s : twS) : f_X6_exercise_b42 E  (tw s q g) = (t_X6_exercise_b42 E  s).map (zem q g) := by
  unfold f_X6_exercise_b42 t_X6_exercise_b42
  rfl
def t_X6_exercise_b19 (E : zE) (p1 : Int32) (s1 : Int32) (s : twS) : Option (Int32 × twS) :=
  bnd2 (t_X6_throwsIf E s1 (1 : Int32) s) fun x4 s2_ =>
  if x4 = 0 then (
    bnd2 (t_X6_isOpenTransfer E p1 s2_) fun x9 s7_ =>
    if x9 = 0 then (
      t_X6_exercise_b42 E s7_
    ) else (
      bnd2 (t_X6_isDelayOver E p1 s7_) fun x14 s12_ =>
      if x14 = 0 then (
        bnd2 (t_X6_set E p1 (3 : Int32) (2 : Int64) s12_) fun x19 s17_ =>
        bnd2 (t_X6_set E p1 (9 : Int32) (5 : Int64) s17_) fun x23 s21_ =>
        bnd2 (t_X6_of E p1 (11 : Int32) s21_) fun x27 s25_ =>
        bnd2 (t_X6_add E p1 (4 : Int32) (-x27) s25_) fun x31 s29_ =>
        some ((1 : Int32), s29_)
      ) else (
        t_X6_exercise_b42 E s12_
      )
    )
  ) else (
    t_X6_exercise_b42 E s2_
  )
theorem ts_X6_exercise_b19 (E : zE) (q : Nat) (g : zH) (p1 : Int32) (s1 : Int32) (s : twS) : f_X6_exercise_b19 E q p1 q s1 (tw s q g) = (t_X6_exercise_b19 E p1 s1 s).map (zem q g) := by
  unfold f_X6_exercise_b19 t_X6_exercise_b19
  refine tb1 (tw_cko _ q g) ?_
  refine tb5 (ts_X6_throwsIf E q g  _ _  _) fun x4 s2_ => ?_
  refine tb6 ?_ ?_
  · refine tb1 (tw_cko _ q g) ?_
    refine tb5 (ts_X6_isOpenTransfer E q g  _  _) fun x9 s7_ => ?_
    refine tb6 ?_ ?_
    · exact ts_X6_exercise_b42 E q g   _
    · refine tb1 (tw_cko _ q g) ?_
      refine tb5 (ts_X6_isDelayOver E q g  _  _) fun x14 s12_ => ?_
      refine tb6 ?_ ?_
      · refine tb1 (tw_cko _ q g) ?_
        refine tb5 (ts_X6_set E q g  _ _ _  _) fun x19 s17_ => ?_
        refine tb1 (tw_cko _ q g) ?_
        refine tb5 (ts_X6_set E q g  _ _ _  _) fun x23 s21_ => ?_
        refine tb1 (tw_cko _ q g) ?_
        refine tb5 (ts_X6_of E q g  _ _  _) fun x27 s25_ => ?_
        refine tb1 (tw_cko _ q g) ?_
        refine tb5 (ts_X6_add E q g  _ _ _  _) fun x31 s29_ => ?_
        rfl
      · exact ts_X6_exercise_b42 E q g   _
  · exact ts_X6_exercise_b42 E q g   _
def t_X6_exercise_b0 (E : zE) (p1 : Int32) (s : twS) : Option (Int32 × twS) :=
  bnd2 (t_X6_isFranchisee E p1 (uSc s 2 (0 : Int32))) fun x6 s4_ =>
  if x6 = 0 then (
    t_X6_exercise_b19 E p1 (1 : Int32) s4_
  ) else (
    t_X6_exercise_b19 E p1 (0 : Int32) s4_
  )
theorem ts_X6_exercise_b0 (E : zE) (q : Nat) (g : zH) (p1 : Int32) (s : twS) : f_X6_exercise_b0 E q p1 (tw s q g) = (t_X6_exercise_b0 E p1 s).map (zem q g) := by
  unfold f_X6_exercise_b0 t_X6_exercise_b0
  refine tb1 (tw_pI_2 _ q g _) ?_
  refine tb1 (tw_cko _ q g) ?_
  refine tb5 (ts_X6_isFranchisee E q g  _  _) fun x6 s4_ => ?_
  refine tb6 ?_ ?_
  · exact ts_X6_exercise_b19 E q g  _ _  _
  · exact ts_X6_exercise_b19 E q g  _ _  _
def t_X6_exercise (E : zE) (p1 : Int32) (s : twS) : Option (Int32 × twS) :=
  t_X6_exercise_b0 E p1 s
theorem ts_X6_exercise (E : zE) (q : Nat) (g : zH) (p1 : Int32) (s : twS) : f_X6_exercise E q p1 (tw s q g) = (t_X6_exercise E p1 s).map (zem q g) := by
  unfold f_X6_exercise t_X6_exercise
  exact ts_X6_exercise_b0 E q g  _  _
def t_X6_withdraw_b34 (E : zE) (s : twS) : Option (Int32 × twS) :=
  some ((0 : Int32), s)
theorem ts_X6_withdraw_b34 (E : zE) (q : Nat) (g : zH) (s : twS) : f_X6_withdraw_b34 E  (tw s q g) = (t_X6_withdraw_b34 E  s).map (zem q g) := by
  unfold f_X6_withdraw_b34 t_X6_withdraw_b34
  rfl
def t_X6_withdraw_b19 (E : zE) (p1 : Int32) (s1 : Int32) (s : twS) : Option (Int32 × twS) :=
  bnd2 (t_X6_throwsIf E s1 (1 : Int32) s) fun x4 s2_ =>
  if x4 = 0 then (
    bnd2 (t_X6_isOpenTransfer E p1 s2_) fun x9 s7_ =>
    if x9 = 0 then (
      t_X6_withdraw_b34 E s7_
    ) else (
      bnd2 (t_X6_set E p1 (9 : Int32) (0 : Int64) s7_) fun x14 s12_ =>
      some ((1 : Int32), s12_)
    )
  ) else (
    t_X6_withdraw_b34 E s2_
  )
theorem ts_X6_withdraw_b19 (E : zE) (q : Nat) (g : zH) (p1 : Int32) (s1 : Int32) (s : twS) : f_X6_withdraw_b19 E q p1 q s1 (tw s q g) = (t_X6_withdraw_b19 E p1 s1 s).map (zem q g) := by
  unfold f_X6_withdraw_b19 t_X6_withdraw_b19
  refine tb1 (tw_cko _ q g) ?_
  refine tb5 (ts_X6_throwsIf E q g  _ _  _) fun x4 s2_ => ?_
  refine tb6 ?_ ?_
  · refine tb1 (tw_cko _ q g) ?_
    refine tb5 (ts_X6_isOpenTransfer E q g  _  _) fun x9 s7_ => ?_
    refine tb6 ?_ ?_
    · exact ts_X6_withdraw_b34 E q g   _
    · refine tb1 (tw_cko _ q g) ?_
      refine tb5 (ts_X6_set E q g  _ _ _  _) fun x14 s12_ => ?_
      rfl
  · exact ts_X6_withdraw_b34 E q g   _
def t_X6_withdraw_b0 (E : zE) (p1 : Int32) (s : twS) : Option (Int32 × twS) :=
  bnd2 (t_X6_isFranchisee E p1 (uSc s 2 (0 : Int32))) fun x6 s4_ =>
  if x6 = 0 then (
    t_X6_withdraw_b19 E p1 (1 : Int32) s4_
  ) else (
    t_X6_withdraw_b19 E p1 (0 : Int32) s4_
  )
theorem ts_X6_withdraw_b0 (E : zE) (q : Nat) (g : zH) (p1 : Int32) (s : twS) : f_X6_withdraw_b0 E q p1 (tw s q g) = (t_X6_withdraw_b0 E p1 s).map (zem q g) := by
  unfold f_X6_withdraw_b0 t_X6_withdraw_b0
  refine tb1 (tw_pI_2 _ q g _) ?_
  refine tb1 (tw_cko _ q g) ?_
  refine tb5 (ts_X6_isFranchisee E q g  _  _) fun x6 s4_ => ?_
  refine tb6 ?_ ?_
  · exact ts_X6_withdraw_b19 E q g  _ _  _
  · exact ts_X6_withdraw_b19 E q g  _ _  _
def t_X6_withdraw (E : zE) (p1 : Int32) (s : twS) : Option (Int32 × twS) :=
  t_X6_withdraw_b0 E p1 s
theorem ts_X6_withdraw (E : zE) (q : Nat) (g : zH) (p1 : Int32) (s : twS) : f_X6_withdraw E q p1 (tw s q g) = (t_X6_withdraw E p1 s).map (zem q g) := by
  unfold f_X6_withdraw t_X6_withdraw
  exact ts_X6_withdraw_b0 E q g  _  _
def t_X6_transferState_b38 (E : zE) (s0 : Int32) (s : twS) : Option (Int32 × twS) :=
  some (s0, s)
theorem ts_X6_transferState_b38 (E : zE) (q : Nat) (g : zH) (s0 : Int32) (s : twS) : f_X6_transferState_b38 E s0 (tw s q g) = (t_X6_transferState_b38 E s0 s).map (zem q g) := by
  unfold f_X6_transferState_b38 t_X6_transferState_b38
  rfl
def t_X6_transferState_b19 (E : zE) (p1 : Int32) (s1 : Int32) (s : twS) : Option (Int32 × twS) :=
  bnd2 (t_X6_throwsIf E s1 (1 : Int32) s) fun x4 s2_ =>
  if x4 = 0 then (
    bnd2 (t_X6_of E p1 (9 : Int32) s2_) fun x9 s7_ =>
    t_X6_transferState_b38 E (x9.toInt32) s7_
  ) else (
    t_X6_transferState_b38 E (0 : Int32) s2_
  )
theorem ts_X6_transferState_b19 (E : zE) (q : Nat) (g : zH) (p1 : Int32) (s1 : Int32) (s : twS) : f_X6_transferState_b19 E q p1 q s1 (tw s q g) = (t_X6_transferState_b19 E p1 s1 s).map (zem q g) := by
  unfold f_X6_transferState_b19 t_X6_transferState_b19
  refine tb1 (tw_cko _ q g) ?_
  refine tb5 (ts_X6_throwsIf E q g  _ _  _) fun x4 s2_ => ?_
  refine tb6 ?_ ?_
  · refine tb1 (tw_cko _ q g) ?_
    refine tb5 (ts_X6_of E q g  _ _  _) fun x9 s7_ => ?_
    exact ts_X6_transferState_b38 E q g  _  _
  · exact ts_X6_transferState_b38 E q g  _  _
def t_X6_transferState_b0 (E : zE) (p1 : Int32) (s : twS) : Option (Int32 × twS) :=
  bnd2 (t_X6_isFranchisee E p1 (uSc s 2 (0 : Int32))) fun x6 s4_ =>
  if x6 = 0 then (
    t_X6_transferState_b19 E p1 (1 : Int32) s4_
  ) else (
    t_X6_transferState_b19 E p1 (0 : Int32) s4_
  )
theorem ts_X6_transferState_b0 (E : zE) (q : Nat) (g : zH) (p1 : Int32) (s : twS) : f_X6_transferState_b0 E q p1 (tw s q g) = (t_X6_transferState_b0 E p1 s).map (zem q g) := by
  unfold f_X6_transferState_b0 t_X6_transferState_b0
  refine tb1 (tw_pI_2 _ q g _) ?_
  refine tb1 (tw_cko _ q g) ?_
  refine tb5 (ts_X6_isFranchisee E q g  _  _) fun x6 s4_ => ?_
  refine tb6 ?_ ?_
  · exact ts_X6_transferState_b19 E q g  _ _  _
  · exact ts_X6_transferState_b19 E q g  _ _  _
def t_X6_transferState (E : zE) (p1 : Int32) (s : twS) : Option (Int32 × twS) :=
  t_X6_transferState_b0 E p1 s
theorem ts_X6_transferState (E : zE) (q : Nat) (g : zH) (p1 : Int32) (s : twS) : f_X6_transferState E q p1 (tw s q g) = (t_X6_transferState E p1 s).map (zem q g) := by
  unfold f_X6_transferState t_X6_transferState
  exact ts_X6_transferState_b0 E q g  _  _
def t_X6_transferWait_b73 (E : zE) (s0 : Int32) (s : twS) : Option (Int32 × twS) :=
  some (s0, s)
theorem ts_X6_transferWait_b73 (E : zE) (q : Nat) (g : zH) (s0 : Int32) (s : twS) : f_X6_transferWait_b73 E s0 (tw s q g) = (t_X6_transferWait_b73 E s0 s).map (zem q g) := by
  unfold f_X6_transferWait_b73 t_X6_transferWait_b73
  rfl
def t_X6_transferWait_b19 (E : zE) (p1 : Int32) (s1 : Int32) (s : twS) : Option (Int32 × twS) :=
  bnd2 (t_X6_throwsIf E s1 (1 : Int32) s) fun x4 s2_ =>
  if x4 = 0 then (
    bnd2 (t_X6_isOpenTransfer E p1 s2_) fun x9 s7_ =>
    if x9 = 0 then (
      some ((-1 : Int32), s7_)
    ) else (
      bnd2 (t_X6_isDelayOver E p1 s7_) fun x14 s12_ =>
      if x14 = 0 then (
        (tdL s12_ 1 (9 : Int32)).bind fun x18 =>
        (tdL s12_ 1 (0 : Int32)).bind fun x22 =>
        bnd2 (t_X6_of E p1 (12 : Int32) s12_) fun x27 s25_ =>
        t_X6_transferWait_b73 E (((x18 - x22) + x27).toInt32) s25_
      ) else (
        t_X6_transferWait_b73 E (0 : Int32) s12_
      )
    )
  ) else (
    some ((0 : Int32), s2_)
  )
theorem ts_X6_transferWait_b19 (E : zE) (q : Nat) (g : zH) (p1 : Int32) (s1 : Int32) (s : twS) : f_X6_transferWait_b19 E q p1 q s1 (tw s q g) = (t_X6_transferWait_b19 E p1 s1 s).map (zem q g) := by
  unfold f_X6_transferWait_b19 t_X6_transferWait_b19
  refine tb1 (tw_cko _ q g) ?_
  refine tb5 (ts_X6_throwsIf E q g  _ _  _) fun x4 s2_ => ?_
  refine tb6 ?_ ?_
  · refine tb1 (tw_cko _ q g) ?_
    refine tb5 (ts_X6_isOpenTransfer E q g  _  _) fun x9 s7_ => ?_
    refine tb6 ?_ ?_
    · rfl
    · refine tb1 (tw_cko _ q g) ?_
      refine tb5 (ts_X6_isDelayOver E q g  _  _) fun x14 s12_ => ?_
      refine tb6 ?_ ?_
      · refine tb1 (tw_gR_0 _ q g) ?_
        refine tb2 (tw_dL _ q g (by decide) _ ) fun x18 => ?_
        refine tb1 (tw_gR_0 _ q g) ?_
        refine tb2 (tw_dL _ q g (by decide) _ ) fun x22 => ?_
        refine tb1 (tw_cko _ q g) ?_
        refine tb5 (ts_X6_of E q g  _ _  _) fun x27 s25_ => ?_
        exact ts_X6_transferWait_b73 E q g  _  _
      · exact ts_X6_transferWait_b73 E q g  _  _
  · rfl
def t_X6_transferWait_b0 (E : zE) (p1 : Int32) (s : twS) : Option (Int32 × twS) :=
  bnd2 (t_X6_isFranchisee E p1 (uSc s 2 (0 : Int32))) fun x6 s4_ =>
  if x6 = 0 then (
    t_X6_transferWait_b19 E p1 (1 : Int32) s4_
  ) else (
    t_X6_transferWait_b19 E p1 (0 : Int32) s4_
  )
theorem ts_X6_transferWait_b0 (E : zE) (q : Nat) (g : zH) (p1 : Int32) (s : twS) : f_X6_transferWait_b0 E q p1 (tw s q g) = (t_X6_transferWait_b0 E p1 s).map (zem q g) := by
  unfold f_X6_transferWait_b0 t_X6_transferWait_b0
  refine tb1 (tw_pI_2 _ q g _) ?_
  refine tb1 (tw_cko _ q g) ?_
  refine tb5 (ts_X6_isFranchisee E q g  _  _) fun x6 s4_ => ?_
  refine tb6 ?_ ?_
  · exact ts_X6_transferWait_b19 E q g  _ _  _
  · exact ts_X6_transferWait_b19 E q g  _ _  _
def t_X6_transferWait (E : zE) (p1 : Int32) (s : twS) : Option (Int32 × twS) :=
  t_X6_transferWait_b0 E p1 s
theorem ts_X6_transferWait (E : zE) (q : Nat) (g : zH) (p1 : Int32) (s : twS) : f_X6_transferWait E q p1 (tw s q g) = (t_X6_transferWait E p1 s).map (zem q g) := by
  unfold f_X6_transferWait t_X6_transferWait
  exact ts_X6_transferWait_b0 E q g  _  _
def t_X6_generation_b37 (E : zE) (s0 : Int32) (s : twS) : Option (Int32 × twS) :=
  some (s0, s)
theorem ts_X6_generation_b37 (E : zE) (q : Nat) (g : zH) (s0 : Int32) (s : twS) : f_X6_generation_b37 E s0 (tw s q g) = (t_X6_generation_b37 E s0 s).map (zem q g) := by
  unfold f_X6_generation_b37 t_X6_generation_b37
  rfl
def t_X6_generation_b19 (E : zE) (p1 : Int32) (s1 : Int32) (s : twS) : Option (Int32 × twS) :=
  bnd2 (t_X6_throwsIf E s1 (1 : Int32) s) fun x4 s2_ =>
  if x4 = 0 then (
    bnd2 (t_X6_of E p1 (5 : Int32) s2_) fun x9 s7_ =>
    t_X6_generation_b37 E (x9.toInt32) s7_
  ) else (
    t_X6_generation_b37 E (0 : Int32) s2_
  )
theorem ts_X6_generation_b19 (E : zE) (q : Nat) (g : zH) (p1 : Int32) (s1 : Int32) (s : twS) : f_X6_generation_b19 E q p1 q s1 (tw s q g) = (t_X6_generation_b19 E p1 s1 s).map (zem q g) := by
  unfold f_X6_generation_b19 t_X6_generation_b19
  refine tb1 (tw_cko _ q g) ?_
  refine tb5 (ts_X6_throwsIf E q g  _ _  _) fun x4 s2_ => ?_
  refine tb6 ?_ ?_
  · refine tb1 (tw_cko _ q g) ?_
    refine tb5 (ts_X6_of E q g  _ _  _) fun x9 s7_ => ?_
    exact ts_X6_generation_b37 E q g  _  _
  · exact ts_X6_generation_b37 E q g  _  _
def t_X6_generation_b0 (E : zE) (p1 : Int32) (s : twS) : Option (Int32 × twS) :=
  bnd2 (t_X6_isFranchisee E p1 (uSc s 2 (0 : Int32))) fun x6 s4_ =>
  if x6 = 0 then (
    t_X6_generation_b19 E p1 (1 : Int32) s4_
  ) else (
    t_X6_generation_b19 E p1 (0 : Int32) s4_
  )
theorem ts_X6_generation_b0 (E : zE) (q : Nat) (g : zH) (p1 : Int32) (s : twS) : f_X6_generation_b0 E q p1 (tw s q g) = (t_X6_generation_b0 E p1 s).map (zem q g) := by
  unfold f_X6_generation_b0 t_X6_generation_b0
  refine tb1 (tw_pI_2 _ q g _) ?_
  refine tb1 (tw_cko _ q g) ?_
  refine tb5 (ts_X6_isFranchisee E q g  _  _) fun x6 s4_ => ?_
  refine tb6 ?_ ?_
  · exact ts_X6_generation_b19 E q g  _ _  _
  · exact ts_X6_generation_b19 E q g  _ _  _
def t_X6_generation (E : zE) (p1 : Int32) (s : twS) : Option (Int32 × twS) :=
  t_X6_generation_b0 E p1 s
theorem ts_X6_generation (E : zE) (q : Nat) (g : zH) (p1 : Int32) (s : twS) : f_X6_generation E q p1 (tw s q g) = (t_X6_generation E p1 s).map (zem q g) := by
  unfold f_X6_generation t_X6_generation
  exact ts_X6_generation_b0 E q g  _  _
def t_X6_worth_b37 (E : zE) (s0 : Int32) (s : twS) : Option (Int32 × twS) :=
  some (s0, s)
theorem ts_X6_worth_b37 (E : zE) (q : Nat) (g : zH) (s0 : Int32) (s : twS) : f_X6_worth_b37 E s0 (tw s q g) = (t_X6_worth_b37 E s0 s).map (zem q g) := by
  unfold f_X6_worth_b37 t_X6_worth_b37
  rfl
def t_X6_worth_b19 (E : zE) (p1 : Int32) (s1 : Int32) (s : twS) : Option (Int32 × twS) :=
  bnd2 (t_X6_throwsIf E s1 (1 : Int32) s) fun x4 s2_ =>
  if x4 = 0 then (
    bnd2 (t_X6_of E p1 (2 : Int32) s2_) fun x9 s7_ =>
    t_X6_worth_b37 E (x9.toInt32) s7_
  ) else (
    t_X6_worth_b37 E (0 : Int32) s2_
  )
theorem ts_X6_worth_b19 (E : zE) (q : Nat) (g : zH) (p1 : Int32) (s1 : Int32) (s : twS) : f_X6_worth_b19 E q p1 q s1 (tw s q g) = (t_X6_worth_b19 E p1 s1 s).map (zem q g) := by
  unfold f_X6_worth_b19 t_X6_worth_b19
  refine tb1 (tw_cko _ q g) ?_
  refine tb5 (ts_X6_throwsIf E q g  _ _  _) fun x4 s2_ => ?_
  refine tb6 ?_ ?_
  · refine tb1 (tw_cko _ q g) ?_
    refine tb5 (ts_X6_of E q g  _ _  _) fun x9 s7_ => ?_
    exact ts_X6_worth_b37 E q g  _  _
  · exact ts_X6_worth_b37 E q g  _  _
def t_X6_worth_b0 (E : zE) (p1 : Int32) (s : twS) : Option (Int32 × twS) :=
  bnd2 (t_X6_isFranchisee E p1 (uSc s 2 (0 : Int32))) fun x6 s4_ =>
  if x6 = 0 then (
    t_X6_worth_b19 E p1 (1 : Int32) s4_
  ) else (
    t_X6_worth_b19 E p1 (0 : Int32) s4_
  )
theorem ts_X6_worth_b0 (E : zE) (q : Nat) (g : zH) (p1 : Int32) (s : twS) : f_X6_worth_b0 E q p1 (tw s q g) = (t_X6_worth_b0 E p1 s).map (zem q g) := by
  unfold f_X6_worth_b0 t_X6_worth_b0
  refine tb1 (tw_pI_2 _ q g _) ?_
  refine tb1 (tw_cko _ q g) ?_
  refine tb5 (ts_X6_isFranchisee E q g  _  _) fun x6 s4_ => ?_
  refine tb6 ?_ ?_
  · exact ts_X6_worth_b19 E q g  _ _  _
  · exact ts_X6_worth_b19 E q g  _ _  _
def t_X6_worth (E : zE) (p1 : Int32) (s : twS) : Option (Int32 × twS) :=
  t_X6_worth_b0 E p1 s
theorem ts_X6_worth (E : zE) (q : Nat) (g : zH) (p1 : Int32) (s : twS) : f_X6_worth E q p1 (tw s q g) = (t_X6_worth E p1 s).map (zem q g) := by
  unfold f_X6_worth t_X6_worth
  exact ts_X6_worth_b0 E q g  _  _
def t_X6_append_b0 (E : zE) (p1 : Int32) (s : twS) : Option (Unit × twS) :=
  (tsI s 6 2 (tSc s 7) ((p1.toInt8.toInt32).toInt8.toInt32)).bind fun s5_ =>
  some ((), (uSc s5_ 7 ((tSc s5_ 7) + (1 : Int32))))
theorem ts_X6_append_b0 (E : zE) (q : Nat) (g : zH) (p1 : Int32) (s : twS) : f_X6_append_b0 E q p1 (tw s q g) = (t_X6_append_b0 E p1 s).map (zem q g) := by
  unfold f_X6_append_b0 t_X6_append_b0
  refine tb1 (tw_gR_6 _ q g) ?_
  refine tb1 (tw_gI_7 _ q g) ?_
  refine tb4 (tw_sI _ q g (by decide) _ _ _ ) fun s5_ => ?_
  refine tb1 (tw_gI_7 _ q g) ?_
  refine tb1 (tw_pI_7 _ q g _) ?_
  rfl
def t_X6_append (E : zE) (p1 : Int32) (s : twS) : Option (Unit × twS) :=
  t_X6_append_b0 E p1 s
theorem ts_X6_append (E : zE) (q : Nat) (g : zH) (p1 : Int32) (s : twS) : f_X6_append E q p1 (tw s q g) = (t_X6_append E p1 s).map (zem q g) := by
  unfold f_X6_append t_X6_append
  exact ts_X6_append_b0 E q g  _  _
def t_X6_pack_b91 (E : zE) (s0 : Int64) (s : twS) : Option (Int64 × twS) :=
  some (s0, s)
theorem ts_X6_pack_b91 (E : zE) (q : Nat) (g : zH) (s0 : Int64) (s : twS) : f_X6_pack_b91 E s0 (tw s q g) = (t_X6_pack_b91 E s0 s).map (zem q g) := by
  unfold f_X6_pack_b91 t_X6_pack_b91
  rfl
def t_X6_pack_b65 (E : zE) (p4 : Int32) (s0 : Int64) (s : twS) : Option (Int64 × twS) :=
  if p4 = 0 then (
    t_X6_pack_b91 E s0 s
  ) else (
    t_X6_pack_b91 E (((s0 * (32 : Int64)) + (p4.toInt64)) - (96 : Int64)) s
  )
theorem ts_X6_pack_b65 (E : zE) (q : Nat) (g : zH) (p4 : Int32) (s0 : Int64) (s : twS) : f_X6_pack_b65 E p4 s0 (tw s q g) = (t_X6_pack_b65 E p4 s0 s).map (zem q g) := by
  unfold f_X6_pack_b65 t_X6_pack_b65
  refine tb6 ?_ ?_
  · exact ts_X6_pack_b91 E q g  _  _
  · exact ts_X6_pack_b91 E q g  _  _
def t_X6_pack_b41 (E : zE) (p3 : Int32) (p4 : Int32) (s0 : Int64) (s : twS) : Option (Int64 × twS) :=
  if p3 = 0 then (
    t_X6_pack_b65 E p4 s0 s
  ) else (
    t_X6_pack_b65 E p4 (((s0 * (32 : Int64)) + (p3.toInt64)) - (96 : Int64)) s
  )
theorem ts_X6_pack_b41 (E : zE) (q : Nat) (g : zH) (p3 : Int32) (p4 : Int32) (s0 : Int64) (s : twS) : f_X6_pack_b41 E p3 p4 s0 (tw s q g) = (t_X6_pack_b41 E p3 p4 s0 s).map (zem q g) := by
  unfold f_X6_pack_b41 t_X6_pack_b41
  refine tb6 ?_ ?_
  · exact ts_X6_pack_b65 E q g  _ _  _
  · exact ts_X6_pack_b65 E q g  _ _  _
def t_X6_pack_b0 (E : zE) (p0 : Int32) (p1 : Int32) (p2 : Int32) (p3 : Int32) (p4 : Int32) (s : twS) : Option (Int64 × twS) :=
  if p2 = 0 then (
    t_X6_pack_b41 E p3 p4 (((((p0.toInt64) - (96 : Int64)) * (32 : Int64)) + (p1.toInt64)) - (96 : Int64)) s
  ) else (
    t_X6_pack_b41 E p3 p4 ((((((((p0.toInt64) - (96 : Int64)) * (32 : Int64)) + (p1.toInt64)) - (96 : Int64)) * (32 : Int64)) + (p2.toInt64)) - (96 : Int64)) s
  )
theorem ts_X6_pack_b0 (E : zE) (q : Nat) (g : zH) (p0 : Int32) (p1 : Int32) (p2 : Int32) (p3 : Int32) (p4 : Int32) (s : twS) : f_X6_pack_b0 E p0 p1 p2 p3 p4 (tw s q g) = (t_X6_pack_b0 E p0 p1 p2 p3 p4 s).map (zem q g) := by
  unfold f_X6_pack_b0 t_X6_pack_b0
  refine tb6 ?_ ?_
  · exact ts_X6_pack_b41 E q g  _ _ _  _
  · exact ts_X6_pack_b41 E q g  _ _ _  _
def t_X6_pack (E : zE) (p0 : Int32) (p1 : Int32) (p2 : Int32) (p3 : Int32) (p4 : Int32) (s : twS) : Option (Int64 × twS) :=
  t_X6_pack_b0 E p0 p1 p2 p3 p4 s
theorem ts_X6_pack (E : zE) (q : Nat) (g : zH) (p0 : Int32) (p1 : Int32) (p2 : Int32) (p3 : Int32) (p4 : Int32) (s : twS) : f_X6_pack E p0 p1 p2 p3 p4 (tw s q g) = (t_X6_pack E p0 p1 p2 p3 p4 s).map (zem q g) := by
  unfold f_X6_pack t_X6_pack
  exact ts_X6_pack_b0 E q g  _ _ _ _ _  _
def t_X6_partName_b0 (E : zE) (p0 : Int32) (s : twS) : Option (Int64 × twS) :=
  if p0 = 0 then (
    bnd2 (t_X6_pack E (114 : Int32) (111 : Int32) (121 : Int32) (97 : Int32) (108 : Int32) s) fun x4 s2_ =>
    bnd2 (t_X6_pack E (116 : Int32) (121 : Int32) (0 : Int32) (0 : Int32) (0 : Int32) s2_) fun x7 s5_ =>
    some (((x4 * (1024 : Int64)) + x7), s5_)
  ) else (
    if p0 = 1 then (
      bnd2 (t_X6_pack E (97 : Int32) (100 : Int32) (0 : Int32) (0 : Int32) (0 : Int32) s) fun x11 s9_ =>
      some (x11, s9_)
    ) else (
      if p0 = 2 then (
        bnd2 (t_X6_pack E (105 : Int32) (110 : Int32) (116 : Int32) (101 : Int32) (114 : Int32) s) fun x15 s13_ =>
        bnd2 (t_X6_pack E (101 : Int32) (115 : Int32) (116 : Int32) (0 : Int32) (0 : Int32) s13_) fun x18 s16_ =>
        some (((x15 * (32768 : Int64)) + x18), s16_)
      ) else (
        if p0 = 3 then (
          bnd2 (t_X6_pack E (112 : Int32) (97 : Int32) (105 : Int32) (100 : Int32) (0 : Int32) s) fun x22 s20_ =>
          some (x22, s20_)
        ) else (
          if p0 = 4 then (
            bnd2 (t_X6_pack E (114 : Int32) (101 : Int32) (99 : Int32) (101 : Int32) (105 : Int32) s) fun x26 s24_ =>
            bnd2 (t_X6_pack E (118 : Int32) (101 : Int32) (100 : Int32) (0 : Int32) (0 : Int32) s24_) fun x29 s27_ =>
            some (((x26 * (32768 : Int64)) + x29), s27_)
          ) else (
            if p0 = 5 then (
              bnd2 (t_X6_pack E (100 : Int32) (117 : Int32) (101 : Int32) (0 : Int32) (0 : Int32) s) fun x33 s31_ =>
              some (x33, s31_)
            ) else (
              bnd2 (t_X6_pack E (98 : Int32) (97 : Int32) (108 : Int32) (97 : Int32) (110 : Int32) s) fun x36 s34_ =>
              bnd2 (t_X6_pack E (99 : Int32) (101 : Int32) (0 : Int32) (0 : Int32) (0 : Int32) s34_) fun x39 s37_ =>
              some (((x36 * (1024 : Int64)) + x39), s37_)
            )
          )
        )
      )
    )
  )
theorem ts_X6_partName_b0 (E : zE) (q : Nat) (g : zH) (p0 : Int32) (s : twS) : f_X6_partName_b0 E p0 (tw s q g) = (t_X6_partName_b0 E p0 s).map (zem q g) := by
  unfold f_X6_partName_b0 t_X6_partName_b0
  refine tb6 ?_ ?_
  · refine tb5 (ts_X6_pack E q g  _ _ _ _ _  _) fun x4 s2_ => ?_
    refine tb5 (ts_X6_pack E q g  _ _ _ _ _  _) fun x7 s5_ => ?_
    rfl
  · refine tb6 ?_ ?_
    · refine tb5 (ts_X6_pack E q g  _ _ _ _ _  _) fun x11 s9_ => ?_
      rfl
    · refine tb6 ?_ ?_
      · refine tb5 (ts_X6_pack E q g  _ _ _ _ _  _) fun x15 s13_ => ?_
        refine tb5 (ts_X6_pack E q g  _ _ _ _ _  _) fun x18 s16_ => ?_
        rfl
      · refine tb6 ?_ ?_
        · refine tb5 (ts_X6_pack E q g  _ _ _ _ _  _) fun x22 s20_ => ?_
          rfl
        · refine tb6 ?_ ?_
          · refine tb5 (ts_X6_pack E q g  _ _ _ _ _  _) fun x26 s24_ => ?_
            refine tb5 (ts_X6_pack E q g  _ _ _ _ _  _) fun x29 s27_ => ?_
            rfl
          · refine tb6 ?_ ?_
            · refine tb5 (ts_X6_pack E q g  _ _ _ _ _  _) fun x33 s31_ => ?_
              rfl
            · refine tb5 (ts_X6_pack E q g  _ _ _ _ _  _) fun x36 s34_ => ?_
              refine tb5 (ts_X6_pack E q g  _ _ _ _ _  _) fun x39 s37_ => ?_
              rfl
def t_X6_partName (E : zE) (p0 : Int32) (s : twS) : Option (Int64 × twS) :=
  t_X6_partName_b0 E p0 s
theorem ts_X6_partName (E : zE) (q : Nat) (g : zH) (p0 : Int32) (s : twS) : f_X6_partName E p0 (tw s q g) = (t_X6_partName E p0 s).map (zem q g) := by
  unfold f_X6_partName t_X6_partName
  exact ts_X6_partName_b0 E q g  _  _
def t_X6_appendWord_b34 (E : zE) (k3 : Int64 → Int32 → twS → Option (Unit × twS)) (p1 : Int64) (p3 : Int32) (s : twS) : Option (Unit × twS) :=
  k3 p1 (p3 + (-5)) s
theorem ts_X6_appendWord_b34 (E : zE) (q : Nat) (g : zH) {K3 : Nat → Int64 → Int32 → zH → Option (Unit × zH)} {k3 : Int64 → Int32 → twS → Option (Unit × twS)} (hk3 : ∀ (p1 : Int64) (p3 : Int32) (s : twS), K3 q p1 p3 (tw s q g) = (k3 p1 p3 s).map (zem q g)) (p1 : Int64) (p3 : Int32) (s : twS) : f_X6_appendWord_b34 E K3 q p1 p3 (tw s q g) = (t_X6_appendWord_b34 E k3 p1 p3 s).map (zem q g) := by
  unfold f_X6_appendWord_b34 t_X6_appendWord_b34
  exact hk3 _ _  _
def t_X6_appendWord_l3 (E : zE) : Nat → Int64 → Int32 → twS → Option (Unit × twS)
  | 0, _, _, _ => none
  | n + 1, p1, p3, s =>
    if p3 < 0 then (
      bnd2 (t_X6_append E (32 : Int32) s) fun x5 s3_ =>
      some ((), s3_)
    ) else (
      if ((p1 >>> (p3.toInt64 &&& 63)) &&& (31 : Int64)) ≤ (0 : Int64) then (
        t_X6_appendWord_b34 E (t_X6_appendWord_l3 E n) p1 p3 s
      ) else (
        bnd2 (t_X6_append E ((96 : Int32) + (((p1 >>> (p3.toInt64 &&& 63)) &&& (31 : Int64)).toInt32)) s) fun x10 s8_ =>
        t_X6_appendWord_b34 E (t_X6_appendWord_l3 E n) p1 p3 s8_
      )
    )
theorem ts_X6_appendWord_l3 (E : zE) (q : Nat) (g : zH) : ∀ (n : Nat) (p1 : Int64) (p3 : Int32) (s : twS), f_X6_appendWord_l3 E n q p1 p3 (tw s q g) = (t_X6_appendWord_l3 E n p1 p3 s).map (zem q g) := by
  intro n
  induction n with
  | zero => intros; rfl
  | succ n ih =>
    intro p1 p3 s
    unfold f_X6_appendWord_l3 t_X6_appendWord_l3
    refine tb6 ?_ ?_
    · refine tb1 (tw_cko _ q g) ?_
      refine tb5 (ts_X6_append E q g  _  _) fun x5 s3_ => ?_
      rfl
    · refine tb6 ?_ ?_
      · exact ts_X6_appendWord_b34 E q g ih  _ _  _
      · refine tb1 (tw_cko _ q g) ?_
        refine tb5 (ts_X6_append E q g  _  _) fun x10 s8_ => ?_
        exact ts_X6_appendWord_b34 E q g ih  _ _  _
def t_X6_appendWord_b0 (E : zE) (p1 : Int64) (s : twS) : Option (Unit × twS) :=
  t_X6_appendWord_l3 E E.1 p1 (45 : Int32) s
theorem ts_X6_appendWord_b0 (E : zE) (q : Nat) (g : zH) (p1 : Int64) (s : twS) : f_X6_appendWord_b0 E q p1 (tw s q g) = (t_X6_appendWord_b0 E p1 s).map (zem q g) := by
  unfold f_X6_appendWord_b0 t_X6_appendWord_b0
  exact ts_X6_appendWord_l3 E q g E.1 _ _  _
def t_X6_appendWord (E : zE) (p1 : Int64) (s : twS) : Option (Unit × twS) :=
  t_X6_appendWord_b0 E p1 s
theorem ts_X6_appendWord (E : zE) (q : Nat) (g : zH) (p1 : Int64) (s : twS) : f_X6_appendWord E q p1 (tw s q g) = (t_X6_appendWord E p1 s).map (zem q g) := by
  unfold f_X6_appendWord t_X6_appendWord
  exact ts_X6_appendWord_b0 E q g  _  _
def t_X6_appendAmount_b90 (E : zE) (k52 : Int64 → Int64 → twS → Option (Unit × twS)) (p3 : Int64) (p5 : Int64) (s : twS) : Option (Unit × twS) :=
  k52 p3 (p5 / (10 : Int64)) s
theorem ts_X6_appendAmount_b90 (E : zE) (q : Nat) (g : zH) {K52 : Nat → Int64 → Int64 → zH → Option (Unit × zH)} {k52 : Int64 → Int64 → twS → Option (Unit × twS)} (hk52 : ∀ (p3 : Int64) (p5 : Int64) (s : twS), K52 q p3 p5 (tw s q g) = (k52 p3 p5 s).map (zem q g)) (p3 : Int64) (p5 : Int64) (s : twS) : f_X6_appendAmount_b90 E K52 q p3 p5 (tw s q g) = (t_X6_appendAmount_b90 E k52 p3 p5 s).map (zem q g) := by
  unfold f_X6_appendAmount_b90 t_X6_appendAmount_b90
  exact hk52 _ _  _
def t_X6_appendAmount_l52 (E : zE) : Nat → Int64 → Int64 → twS → Option (Unit × twS)
  | 0, _, _, _ => none
  | n + 1, p3, p5, s =>
    if p5 ≤ (0 : Int64) then (
      some ((), s)
    ) else (
      (zn0L p5).bind fun _ =>
      bnd2 (t_X6_append E ((48 : Int32) + (((p3 / p5) - (p3 / p5) / (10 : Int64) * (10 : Int64)).toInt32)) s) fun x6 s4_ =>
      if p5 = (100 : Int64) then (
        bnd2 (t_X6_append E (46 : Int32) s4_) fun x11 s9_ =>
        t_X6_appendAmount_b90 E (t_X6_appendAmount_l52 E n) p3 p5 s9_
      ) else (
        t_X6_appendAmount_b90 E (t_X6_appendAmount_l52 E n) p3 p5 s4_
      )
    )
theorem ts_X6_appendAmount_l52 (E : zE) (q : Nat) (g : zH) : ∀ (n : Nat) (p3 : Int64) (p5 : Int64) (s : twS), f_X6_appendAmount_l52 E n q p3 p5 (tw s q g) = (t_X6_appendAmount_l52 E n p3 p5 s).map (zem q g) := by
  intro n
  induction n with
  | zero => intros; rfl
  | succ n ih =>
    intro p3 p5 s
    unfold f_X6_appendAmount_l52 t_X6_appendAmount_l52
    refine tb6 ?_ ?_
    · rfl
    · refine tb2 rfl fun _ => ?_
      refine tb1 (tw_cko _ q g) ?_
      refine tb5 (ts_X6_append E q g  _  _) fun x6 s4_ => ?_
      refine tb6 ?_ ?_
      · refine tb1 (tw_cko _ q g) ?_
        refine tb5 (ts_X6_append E q g  _  _) fun x11 s9_ => ?_
        exact ts_X6_appendAmount_b90 E q g ih  _ _  _
      · exact ts_X6_appendAmount_b90 E q g ih  _ _  _
def t_X6_appendAmount_l30 (E : zE) : Nat → Int64 → Int64 → twS → Option (Unit × twS)
  | 0, _, _, _ => none
  | n + 1, p3, p5, s =>
    (zn0L p5).bind fun _ =>
    if (p3 / p5) ≤ (9 : Int64) then (
      t_X6_appendAmount_l52 E E.1 p3 p5 s
    ) else (
      t_X6_appendAmount_l30 E n p3 (p5 * (10 : Int64)) s
    )
theorem ts_X6_appendAmount_l30 (E : zE) (q : Nat) (g : zH) : ∀ (n : Nat) (p3 : Int64) (p5 : Int64) (s : twS), f_X6_appendAmount_l30 E n q p3 p5 (tw s q g) = (t_X6_appendAmount_l30 E n p3 p5 s).map (zem q g) := by
  intro n
  induction n with
  | zero => intros; rfl
  | succ n ih =>
    intro p3 p5 s
    unfold f_X6_appendAmount_l30 t_X6_appendAmount_l30
    refine tb2 rfl fun _ => ?_
    refine tb6 ?_ ?_
    · exact ts_X6_appendAmount_l52 E q g E.1 _ _  _
    · exact ih _ _  _
def t_X6_appendAmount_b24 (E : zE) (s0 : Int64) (s : twS) : Option (Unit × twS) :=
  t_X6_appendAmount_l30 E E.1 s0 (100 : Int64) s
theorem ts_X6_appendAmount_b24 (E : zE) (q : Nat) (g : zH) (s0 : Int64) (s : twS) : f_X6_appendAmount_b24 E q s0 (tw s q g) = (t_X6_appendAmount_b24 E s0 s).map (zem q g) := by
  unfold f_X6_appendAmount_b24 t_X6_appendAmount_b24
  exact ts_X6_appendAmount_l30 E q g E.1 _ _  _
def t_X6_appendAmount_b12 (E : zE) (p1 : Int64) (s : twS) : Option (Unit × twS) :=
  if (0 : Int64) ≤ p1 then (
    t_X6_appendAmount_b24 E p1 s
  ) else (
    t_X6_appendAmount_b24 E (-p1) s
  )
theorem ts_X6_appendAmount_b12 (E : zE) (q : Nat) (g : zH) (p1 : Int64) (s : twS) : f_X6_appendAmount_b12 E q p1 (tw s q g) = (t_X6_appendAmount_b12 E p1 s).map (zem q g) := by
  unfold f_X6_appendAmount_b12 t_X6_appendAmount_b12
  refine tb6 ?_ ?_
  · exact ts_X6_appendAmount_b24 E q g  _  _
  · exact ts_X6_appendAmount_b24 E q g  _  _
def t_X6_appendAmount_b0 (E : zE) (p1 : Int64) (s : twS) : Option (Unit × twS) :=
  if (0 : Int64) ≤ p1 then (
    t_X6_appendAmount_b12 E p1 s
  ) else (
    bnd2 (t_X6_append E (45 : Int32) s) fun x5 s3_ =>
    t_X6_appendAmount_b12 E p1 s3_
  )
theorem ts_X6_appendAmount_b0 (E : zE) (q : Nat) (g : zH) (p1 : Int64) (s : twS) : f_X6_appendAmount_b0 E q p1 (tw s q g) = (t_X6_appendAmount_b0 E p1 s).map (zem q g) := by
  unfold f_X6_appendAmount_b0 t_X6_appendAmount_b0
  refine tb6 ?_ ?_
  · exact ts_X6_appendAmount_b12 E q g  _  _
  · refine tb1 (tw_cko _ q g) ?_
    refine tb5 (ts_X6_append E q g  _  _) fun x5 s3_ => ?_
    exact ts_X6_appendAmount_b12 E q g  _  _
def t_X6_appendAmount (E : zE) (p1 : Int64) (s : twS) : Option (Unit × twS) :=
  t_X6_appendAmount_b0 E p1 s
theorem ts_X6_appendAmount (E : zE) (q : Nat) (g : zH) (p1 : Int64) (s : twS) : f_X6_appendAmount E q p1 (tw s q g) = (t_X6_appendAmount E p1 s).map (zem q g) := by
  unfold f_X6_appendAmount t_X6_appendAmount
  exact ts_X6_appendAmount_b0 E q g  _  _
def t_X6_formatInvoice_b47 (E : zE) (s : twS) : Option (Int32 × twS) :=
  some ((0 : Int32), s)
theorem ts_X6_formatInvoice_b47 (E : zE) (q : Nat) (g : zH) (s : twS) : f_X6_formatInvoice_b47 E  (tw s q g) = (t_X6_formatInvoice_b47 E  s).map (zem q g) := by
  unfold f_X6_formatInvoice_b47 t_X6_formatInvoice_b47
  rfl
def t_X6_formatInvoice_b72 (E : zE) (k56 : Int32 → Int32 → Int32 → twS → Option (Int32 × twS)) (p1 : Int32) (p2 : Int32) (p3 : Int32) (s : twS) : Option (Int32 × twS) :=
  bnd2 (t_X6_partName E p3 s) fun x3 s1_ =>
  bnd2 (t_X6_appendWord E x3 s1_) fun x7 s5_ =>
  bnd2 (t_X6_invoiceRow E p1 p2 s5_) fun x13 s11_ =>
  (tdL s11_ 1 (x13 + p3)).bind fun x14 =>
  bnd2 (t_X6_appendAmount E x14 s11_) fun x19 s17_ =>
  k56 p1 p2 (p3 + 1) s17_
theorem ts_X6_formatInvoice_b72 (E : zE) (q : Nat) (g : zH) {K56 : Nat → Int32 → Int32 → Int32 → zH → Option (Int32 × zH)} {k56 : Int32 → Int32 → Int32 → twS → Option (Int32 × twS)} (hk56 : ∀ (p1 : Int32) (p2 : Int32) (p3 : Int32) (s : twS), K56 q p1 p2 p3 (tw s q g) = (k56 p1 p2 p3 s).map (zem q g)) (p1 : Int32) (p2 : Int32) (p3 : Int32) (s : twS) : f_X6_formatInvoice_b72 E K56 q p1 p2 p3 (tw s q g) = (t_X6_formatInvoice_b72 E k56 p1 p2 p3 s).map (zem q g) := by
  unfold f_X6_formatInvoice_b72 t_X6_formatInvoice_b72
  refine tb5 (ts_X6_partName E q g  _  _) fun x3 s1_ => ?_
  refine tb1 (tw_cko _ q g) ?_
  refine tb5 (ts_X6_appendWord E q g  _  _) fun x7 s5_ => ?_
  refine tb1 (tw_gR_0 _ q g) ?_
  refine tb1 (tw_cko _ q g) ?_
  refine tb5 (ts_X6_invoiceRow E q g  _ _  _) fun x13 s11_ => ?_
  refine tb2 (tw_dL _ q g (by decide) _ ) fun x14 => ?_
  refine tb1 (tw_cko _ q g) ?_
  refine tb5 (ts_X6_appendAmount E q g  _  _) fun x19 s17_ => ?_
  exact hk56 _ _ _  _
def t_X6_formatInvoice_l56 (E : zE) : Nat → Int32 → Int32 → Int32 → twS → Option (Int32 × twS)
  | 0, _, _, _, _ => none
  | n + 1, p1, p2, p3, s =>
    if (7 : Int32) ≤ p3 then (
      some ((tSc s 7), s)
    ) else (
      if p3 ≤ 0 then (
        t_X6_formatInvoice_b72 E (t_X6_formatInvoice_l56 E n) p1 p2 p3 s
      ) else (
        bnd2 (t_X6_append E (32 : Int32) s) fun x8 s6_ =>
        t_X6_formatInvoice_b72 E (t_X6_formatInvoice_l56 E n) p1 p2 p3 s6_
      )
    )
theorem ts_X6_formatInvoice_l56 (E : zE) (q : Nat) (g : zH) : ∀ (n : Nat) (p1 : Int32) (p2 : Int32) (p3 : Int32) (s : twS), f_X6_formatInvoice_l56 E n q p1 p2 p3 (tw s q g) = (t_X6_formatInvoice_l56 E n p1 p2 p3 s).map (zem q g) := by
  intro n
  induction n with
  | zero => intros; rfl
  | succ n ih =>
    intro p1 p2 p3 s
    unfold f_X6_formatInvoice_l56 t_X6_formatInvoice_l56
    refine tb6 ?_ ?_
    · refine tb1 (tw_gI_7 _ q g) ?_
      rfl
    · refine tb6 ?_ ?_
      · exact ts_X6_formatInvoice_b72 E q g ih  _ _ _  _
      · refine tb1 (tw_cko _ q g) ?_
        refine tb5 (ts_X6_append E q g  _  _) fun x8 s6_ => ?_
        exact ts_X6_formatInvoice_b72 E q g ih  _ _ _  _
def t_X6_formatInvoice_b40 (E : zE) (p1 : Int32) (p2 : Int32) (s1 : Int32) (s : twS) : Option (Int32 × twS) :=
  bnd2 (t_X6_throwsIf E s1 (2 : Int32) s) fun x4 s2_ =>
  if x4 = 0 then (
    t_X6_formatInvoice_l56 E E.1 p1 p2 (0 : Int32) (uSc s2_ 7 (0 : Int32))
  ) else (
    t_X6_formatInvoice_b47 E s2_
  )
theorem ts_X6_formatInvoice_b40 (E : zE) (q : Nat) (g : zH) (p1 : Int32) (p2 : Int32) (s1 : Int32) (s : twS) : f_X6_formatInvoice_b40 E q p1 p2 q s1 (tw s q g) = (t_X6_formatInvoice_b40 E p1 p2 s1 s).map (zem q g) := by
  unfold f_X6_formatInvoice_b40 t_X6_formatInvoice_b40
  refine tb1 (tw_cko _ q g) ?_
  refine tb5 (ts_X6_throwsIf E q g  _ _  _) fun x4 s2_ => ?_
  refine tb6 ?_ ?_
  · refine tb1 (tw_pI_7 _ q g _) ?_
    exact ts_X6_formatInvoice_l56 E q g E.1 _ _ _  _
  · exact ts_X6_formatInvoice_b47 E q g   _
def t_X6_formatInvoice_b19 (E : zE) (p1 : Int32) (p2 : Int32) (s1 : Int32) (s : twS) : Option (Int32 × twS) :=
  bnd2 (t_X6_throwsIf E s1 (1 : Int32) s) fun x4 s2_ =>
  if x4 = 0 then (
    bnd2 (t_X6_isClosed E p2 s2_) fun x9 s7_ =>
    if x9 = 0 then (
      t_X6_formatInvoice_b40 E p1 p2 (1 : Int32) s7_
    ) else (
      t_X6_formatInvoice_b40 E p1 p2 (0 : Int32) s7_
    )
  ) else (
    t_X6_formatInvoice_b47 E s2_
  )
theorem ts_X6_formatInvoice_b19 (E : zE) (q : Nat) (g : zH) (p1 : Int32) (p2 : Int32) (s1 : Int32) (s : twS) : f_X6_formatInvoice_b19 E q p1 p2 q s1 (tw s q g) = (t_X6_formatInvoice_b19 E p1 p2 s1 s).map (zem q g) := by
  unfold f_X6_formatInvoice_b19 t_X6_formatInvoice_b19
  refine tb1 (tw_cko _ q g) ?_
  refine tb5 (ts_X6_throwsIf E q g  _ _  _) fun x4 s2_ => ?_
  refine tb6 ?_ ?_
  · refine tb1 (tw_cko _ q g) ?_
    refine tb5 (ts_X6_isClosed E q g  _  _) fun x9 s7_ => ?_
    refine tb6 ?_ ?_
    · exact ts_X6_formatInvoice_b40 E q g  _ _ _  _
    · exact ts_X6_formatInvoice_b40 E q g  _ _ _  _
  · exact ts_X6_formatInvoice_b47 E q g   _
def t_X6_formatInvoice_b0 (E : zE) (p1 : Int32) (p2 : Int32) (s : twS) : Option (Int32 × twS) :=
  bnd2 (t_X6_isFranchisee E p1 (uSc s 2 (0 : Int32))) fun x6 s4_ =>
  if x6 = 0 then (
    t_X6_formatInvoice_b19 E p1 p2 (1 : Int32) s4_
  ) else (
    t_X6_formatInvoice_b19 E p1 p2 (0 : Int32) s4_
  )
theorem ts_X6_formatInvoice_b0 (E : zE) (q : Nat) (g : zH) (p1 : Int32) (p2 : Int32) (s : twS) : f_X6_formatInvoice_b0 E q p1 p2 (tw s q g) = (t_X6_formatInvoice_b0 E p1 p2 s).map (zem q g) := by
  unfold f_X6_formatInvoice_b0 t_X6_formatInvoice_b0
  refine tb1 (tw_pI_2 _ q g _) ?_
  refine tb1 (tw_cko _ q g) ?_
  refine tb5 (ts_X6_isFranchisee E q g  _  _) fun x6 s4_ => ?_
  refine tb6 ?_ ?_
  · exact ts_X6_formatInvoice_b19 E q g  _ _ _  _
  · exact ts_X6_formatInvoice_b19 E q g  _ _ _  _
def t_X6_formatInvoice (E : zE) (p1 : Int32) (p2 : Int32) (s : twS) : Option (Int32 × twS) :=
  t_X6_formatInvoice_b0 E p1 p2 s
theorem ts_X6_formatInvoice (E : zE) (q : Nat) (g : zH) (p1 : Int32) (p2 : Int32) (s : twS) : f_X6_formatInvoice E q p1 p2 (tw s q g) = (t_X6_formatInvoice E p1 p2 s).map (zem q g) := by
  unfold f_X6_formatInvoice t_X6_formatInvoice
  exact ts_X6_formatInvoice_b0 E q g  _ _  _
def t_X6_formattedByte_b31 (E : zE) (s0 : Int32) (s : twS) : Option (Int32 × twS) :=
  some (s0, s)
theorem ts_X6_formattedByte_b31 (E : zE) (q : Nat) (g : zH) (s0 : Int32) (s : twS) : f_X6_formattedByte_b31 E s0 (tw s q g) = (t_X6_formattedByte_b31 E s0 s).map (zem q g) := by
  unfold f_X6_formattedByte_b31 t_X6_formattedByte_b31
  rfl
def t_X6_formattedByte_b0 (E : zE) (p1 : Int32) (s : twS) : Option (Int32 × twS) :=
  bnd2 (t_X6_inRange E (p1.toInt64) (0 : Int64) (((tSc (uSc s 2 (0 : Int32)) 7) - (1 : Int32)).toInt64) (uSc s 2 (0 : Int32))) fun x7 s5_ =>
  if x7 = 0 then (
    t_X6_formattedByte_b31 E (-1 : Int32) s5_
  ) else (
    (tdI s5_ 6 2 p1).bind fun x11 =>
    t_X6_formattedByte_b31 E x11 s5_
  )
theorem ts_X6_formattedByte_b0 (E : zE) (q : Nat) (g : zH) (p1 : Int32) (s : twS) : f_X6_formattedByte_b0 E q p1 (tw s q g) = (t_X6_formattedByte_b0 E p1 s).map (zem q g) := by
  unfold f_X6_formattedByte_b0 t_X6_formattedByte_b0
  refine tb1 (tw_pI_2 _ q g _) ?_
  refine tb1 (tw_gI_7 _ q g) ?_
  refine tb5 (ts_X6_inRange E q g  _ _ _  _) fun x7 s5_ => ?_
  refine tb6 ?_ ?_
  · exact ts_X6_formattedByte_b31 E q g  _  _
  · refine tb1 (tw_gR_6 _ q g) ?_
    refine tb2 (tw_dI _ q g (by decide) _ _ ) fun x11 => ?_
    exact ts_X6_formattedByte_b31 E q g  _  _
def t_X6_formattedByte (E : zE) (p1 : Int32) (s : twS) : Option (Int32 × twS) :=
  t_X6_formattedByte_b0 E p1 s
theorem ts_X6_formattedByte (E : zE) (q : Nat) (g : zH) (p1 : Int32) (s : twS) : f_X6_formattedByte E q p1 (tw s q g) = (t_X6_formattedByte E p1 s).map (zem q g) := by
  unfold f_X6_formattedByte t_X6_formattedByte
  exact ts_X6_formattedByte_b0 E q g  _  _
def t_X6_appendBytes_l3 (E : zE) : Nat → Int32 → Int32 → twS → Option (Unit × twS)
  | 0, _, _, _ => none
  | n + 1, p1, p2, s =>
    if p2 < 0 then (
      some ((), s)
    ) else (
      (tsI s 7 2 (tSc s 9) (((p1 >>> (p2 &&& 31)).toInt8.toInt32).toInt8.toInt32)).bind fun s6_ =>
      t_X6_appendBytes_l3 E n p1 (p2 + (-8)) (uSc s6_ 9 ((tSc s6_ 9) + (1 : Int32)))
    )
theorem ts_X6_appendBytes_l3 (E : zE) (q : Nat) (g : zH) : ∀ (n : Nat) (p1 : Int32) (p2 : Int32) (s : twS), f_X6_appendBytes_l3 E n q p1 p2 (tw s q g) = (t_X6_appendBytes_l3 E n p1 p2 s).map (zem q g) := by
  intro n
  induction n with
  | zero => intros; rfl
  | succ n ih =>
    intro p1 p2 s
    unfold f_X6_appendBytes_l3 t_X6_appendBytes_l3
    refine tb6 ?_ ?_
    · rfl
    · refine tb1 (tw_gR_8 _ q g) ?_
      refine tb1 (tw_gI_9 _ q g) ?_
      refine tb4 (tw_sI _ q g (by decide) _ _ _ ) fun s6_ => ?_
      refine tb1 (tw_gI_9 _ q g) ?_
      refine tb1 (tw_pI_9 _ q g _) ?_
      exact ih _ _  _
def t_X6_appendBytes_b0 (E : zE) (p1 : Int32) (s : twS) : Option (Unit × twS) :=
  t_X6_appendBytes_l3 E E.1 p1 (24 : Int32) s
theorem ts_X6_appendBytes_b0 (E : zE) (q : Nat) (g : zH) (p1 : Int32) (s : twS) : f_X6_appendBytes_b0 E q p1 (tw s q g) = (t_X6_appendBytes_b0 E p1 s).map (zem q g) := by
  unfold f_X6_appendBytes_b0 t_X6_appendBytes_b0
  exact ts_X6_appendBytes_l3 E q g E.1 _ _  _
def t_X6_appendBytes (E : zE) (p1 : Int32) (s : twS) : Option (Unit × twS) :=
  t_X6_appendBytes_b0 E p1 s
theorem ts_X6_appendBytes (E : zE) (q : Nat) (g : zH) (p1 : Int32) (s : twS) : f_X6_appendBytes E q p1 (tw s q g) = (t_X6_appendBytes E p1 s).map (zem q g) := by
  unfold f_X6_appendBytes t_X6_appendBytes
  exact ts_X6_appendBytes_b0 E q g  _  _
def t_X6_appendInput_b0 (E : zE) (p1 : Int32) (p2 : Int32) (p3 : Int32) (p4 : Int32) (p5 : Int32) (s : twS) : Option (Int32 × twS) :=
  if ((tSc (uSc s 2 (0 : Int32)) 9) + (20 : Int32)) ≤ (1500 : Int32) then (
    bnd2 (t_X6_appendBytes E p1 (uSc s 2 (0 : Int32))) fun x9 s7_ =>
    bnd2 (t_X6_appendBytes E p2 s7_) fun x13 s11_ =>
    bnd2 (t_X6_appendBytes E p3 s11_) fun x17 s15_ =>
    bnd2 (t_X6_appendBytes E p4 s15_) fun x21 s19_ =>
    bnd2 (t_X6_appendBytes E p5 s19_) fun x25 s23_ =>
    some ((tSc s23_ 9), s23_)
  ) else (
    some ((-1 : Int32), (uSc s 2 (0 : Int32)))
  )
theorem ts_X6_appendInput_b0 (E : zE) (q : Nat) (g : zH) (p1 : Int32) (p2 : Int32) (p3 : Int32) (p4 : Int32) (p5 : Int32) (s : twS) : f_X6_appendInput_b0 E q p1 p2 p3 p4 p5 (tw s q g) = (t_X6_appendInput_b0 E p1 p2 p3 p4 p5 s).map (zem q g) := by
  unfold f_X6_appendInput_b0 t_X6_appendInput_b0
  refine tb1 (tw_pI_2 _ q g _) ?_
  refine tb1 (tw_gI_9 _ q g) ?_
  refine tb6 ?_ ?_
  · refine tb1 (tw_cko _ q g) ?_
    refine tb5 (ts_X6_appendBytes E q g  _  _) fun x9 s7_ => ?_
    refine tb1 (tw_cko _ q g) ?_
    refine tb5 (ts_X6_appendBytes E q g  _  _) fun x13 s11_ => ?_
    refine tb1 (tw_cko _ q g) ?_
    refine tb5 (ts_X6_appendBytes E q g  _  _) fun x17 s15_ => ?_
    refine tb1 (tw_cko _ q g) ?_
    refine tb5 (ts_X6_appendBytes E q g  _  _) fun x21 s19_ => ?_
    refine tb1 (tw_cko _ q g) ?_
    refine tb5 (ts_X6_appendBytes E q g  _  _) fun x25 s23_ => ?_
    refine tb1 (tw_gI_9 _ q g) ?_
    rfl
  · rfl
def t_X6_appendInput (E : zE) (p1 : Int32) (p2 : Int32) (p3 : Int32) (p4 : Int32) (p5 : Int32) (s : twS) : Option (Int32 × twS) :=
  t_X6_appendInput_b0 E p1 p2 p3 p4 p5 s
theorem ts_X6_appendInput (E : zE) (q : Nat) (g : zH) (p1 : Int32) (p2 : Int32) (p3 : Int32) (p4 : Int32) (p5 : Int32) (s : twS) : f_X6_appendInput E q p1 p2 p3 p4 p5 (tw s q g) = (t_X6_appendInput E p1 p2 p3 p4 p5 s).map (zem q g) := by
  unfold f_X6_appendInput t_X6_appendInput
  exact ts_X6_appendInput_b0 E q g  _ _ _ _ _  _
def t_X6_truncateInput_b0 (E : zE) (p1 : Int32) (s : twS) : Option (Int32 × twS) :=
  bnd2 (t_X6_inRange E (p1.toInt64) (0 : Int64) ((tSc (uSc s 2 (0 : Int32)) 9).toInt64) (uSc s 2 (0 : Int32))) fun x7 s5_ =>
  if x7 = 0 then (
    some ((-1 : Int32), s5_)
  ) else (
    some (p1, (uSc s5_ 9 p1))
  )
theorem ts_X6_truncateInput_b0 (E : zE) (q : Nat) (g : zH) (p1 : Int32) (s : twS) : f_X6_truncateInput_b0 E q p1 (tw s q g) = (t_X6_truncateInput_b0 E p1 s).map (zem q g) := by
  unfold f_X6_truncateInput_b0 t_X6_truncateInput_b0
  refine tb1 (tw_pI_2 _ q g _) ?_
  refine tb1 (tw_gI_9 _ q g) ?_
  refine tb5 (ts_X6_inRange E q g  _ _ _  _) fun x7 s5_ => ?_
  refine tb6 ?_ ?_
  · rfl
  · refine tb1 (tw_pI_9 _ q g _) ?_
    rfl
def t_X6_truncateInput (E : zE) (p1 : Int32) (s : twS) : Option (Int32 × twS) :=
  t_X6_truncateInput_b0 E p1 s
theorem ts_X6_truncateInput (E : zE) (q : Nat) (g : zH) (p1 : Int32) (s : twS) : f_X6_truncateInput E q p1 (tw s q g) = (t_X6_truncateInput E p1 s).map (zem q g) := by
  unfold f_X6_truncateInput t_X6_truncateInput
  exact ts_X6_truncateInput_b0 E q g  _  _
def t_X6_errorCode_b0 (E : zE) (s : twS) : Option (Int32 × twS) :=
  some ((tSc (uSc s 2 (0 : Int32)) 11), (uSc s 2 (0 : Int32)))
theorem ts_X6_errorCode_b0 (E : zE) (q : Nat) (g : zH) (s : twS) : f_X6_errorCode_b0 E q (tw s q g) = (t_X6_errorCode_b0 E  s).map (zem q g) := by
  unfold f_X6_errorCode_b0 t_X6_errorCode_b0
  refine tb1 (tw_pI_2 _ q g _) ?_
  refine tb1 (tw_gI_11 _ q g) ?_
  rfl
def t_X6_errorCode (E : zE) (s : twS) : Option (Int32 × twS) :=
  t_X6_errorCode_b0 E s
theorem ts_X6_errorCode (E : zE) (q : Nat) (g : zH) (s : twS) : f_X6_errorCode E q (tw s q g) = (t_X6_errorCode E  s).map (zem q g) := by
  unfold f_X6_errorCode t_X6_errorCode
  exact ts_X6_errorCode_b0 E q g   _
def t_X6_errorPosition_b0 (E : zE) (s : twS) : Option (Int32 × twS) :=
  some ((tSc (uSc s 2 (0 : Int32)) 12), (uSc s 2 (0 : Int32)))
theorem ts_X6_errorPosition_b0 (E : zE) (q : Nat) (g : zH) (s : twS) : f_X6_errorPosition_b0 E q (tw s q g) = (t_X6_errorPosition_b0 E  s).map (zem q g) := by
  unfold f_X6_errorPosition_b0 t_X6_errorPosition_b0
  refine tb1 (tw_pI_2 _ q g _) ?_
  refine tb1 (tw_gI_12 _ q g) ?_
  rfl
def t_X6_errorPosition (E : zE) (s : twS) : Option (Int32 × twS) :=
  t_X6_errorPosition_b0 E s
theorem ts_X6_errorPosition (E : zE) (q : Nat) (g : zH) (s : twS) : f_X6_errorPosition E q (tw s q g) = (t_X6_errorPosition E  s).map (zem q g) := by
  unfold f_X6_errorPosition t_X6_errorPosition
  exact ts_X6_errorPosition_b0 E q g   _
def t_X6_byteAt_b22 (E : zE) (s0 : Int32) (s : twS) : Option (Int32 × twS) :=
  some (s0, s)
theorem ts_X6_byteAt_b22 (E : zE) (q : Nat) (g : zH) (s0 : Int32) (s : twS) : f_X6_byteAt_b22 E s0 (tw s q g) = (t_X6_byteAt_b22 E s0 s).map (zem q g) := by
  unfold f_X6_byteAt_b22 t_X6_byteAt_b22
  rfl
def t_X6_byteAt_b0 (E : zE) (p1 : Int32) (s : twS) : Option (Int32 × twS) :=
  if (tSc s 9) ≤ p1 then (
    t_X6_byteAt_b22 E (-1 : Int32) s
  ) else (
    (tdI s 7 2 p1).bind fun x6 =>
    t_X6_byteAt_b22 E (x6 &&& (255 : Int32)) s
  )
theorem ts_X6_byteAt_b0 (E : zE) (q : Nat) (g : zH) (p1 : Int32) (s : twS) : f_X6_byteAt_b0 E q p1 (tw s q g) = (t_X6_byteAt_b0 E p1 s).map (zem q g) := by
  unfold f_X6_byteAt_b0 t_X6_byteAt_b0
  refine tb1 (tw_gI_9 _ q g) ?_
  refine tb6 ?_ ?_
  · exact ts_X6_byteAt_b22 E q g  _  _
  · refine tb1 (tw_gR_8 _ q g) ?_
    refine tb2 (tw_dI _ q g (by decide) _ _ ) fun x6 => ?_
    exact ts_X6_byteAt_b22 E q g  _  _
def t_X6_byteAt (E : zE) (p1 : Int32) (s : twS) : Option (Int32 × twS) :=
  t_X6_byteAt_b0 E p1 s
theorem ts_X6_byteAt (E : zE) (q : Nat) (g : zH) (p1 : Int32) (s : twS) : f_X6_byteAt E q p1 (tw s q g) = (t_X6_byteAt E p1 s).map (zem q g) := by
  unfold f_X6_byteAt t_X6_byteAt
  exact ts_X6_byteAt_b0 E q g  _  _
def t_X6_isLetter_b0 (E : zE) (p0 : Int32) (s : twS) : Option (Int32 × twS) :=
  bnd2 (t_X6_inRange E (p0.toInt64) (97 : Int64) (122 : Int64) s) fun x3 s1_ =>
  (zgd .boolean x3).bind fun _ =>
  some (x3, s1_)
theorem ts_X6_isLetter_b0 (E : zE) (q : Nat) (g : zH) (p0 : Int32) (s : twS) : f_X6_isLetter_b0 E p0 (tw s q g) = (t_X6_isLetter_b0 E p0 s).map (zem q g) := by
  unfold f_X6_isLetter_b0 t_X6_isLetter_b0
  refine tb5 (ts_X6_inRange E q g  _ _ _  _) fun x3 s1_ => ?_
  refine tb2 rfl fun _ => ?_
  rfl
def t_X6_isLetter (E : zE) (p0 : Int32) (s : twS) : Option (Int32 × twS) :=
  t_X6_isLetter_b0 E p0 s
theorem ts_X6_isLetter (E : zE) (q : Nat) (g : zH) (p0 : Int32) (s : twS) : f_X6_isLetter E p0 (tw s q g) = (t_X6_isLetter E p0 s).map (zem q g) := by
  unfold f_X6_isLetter t_X6_isLetter
  exact ts_X6_isLetter_b0 E q g  _  _
def t_X6_isDigit_b0 (E : zE) (p0 : Int32) (s : twS) : Option (Int32 × twS) :=
  bnd2 (t_X6_inRange E (p0.toInt64) (48 : Int64) (57 : Int64) s) fun x3 s1_ =>
  (zgd .boolean x3).bind fun _ =>
  some (x3, s1_)
theorem ts_X6_isDigit_b0 (E : zE) (q : Nat) (g : zH) (p0 : Int32) (s : twS) : f_X6_isDigit_b0 E p0 (tw s q g) = (t_X6_isDigit_b0 E p0 s).map (zem q g) := by
  unfold f_X6_isDigit_b0 t_X6_isDigit_b0
  refine tb5 (ts_X6_inRange E q g  _ _ _  _) fun x3 s1_ => ?_
  refine tb2 rfl fun _ => ?_
  rfl
def t_X6_isDigit (E : zE) (p0 : Int32) (s : twS) : Option (Int32 × twS) :=
  t_X6_isDigit_b0 E p0 s
theorem ts_X6_isDigit (E : zE) (q : Nat) (g : zH) (p0 : Int32) (s : twS) : f_X6_isDigit E p0 (tw s q g) = (t_X6_isDigit E p0 s).map (zem q g) := by
  unfold f_X6_isDigit t_X6_isDigit
  exact ts_X6_isDigit_b0 E q g  _  _
def t_X6_advance_b26 (E : zE) (k0 : twS → Option (Unit × twS)) (s : twS) : Option (Unit × twS) :=
  k0 (uSc s 10 ((tSc s 10) + (1 : Int32)))
theorem ts_X6_advance_b26 (E : zE) (q : Nat) (g : zH) {K0 : Nat → zH → Option (Unit × zH)} {k0 : twS → Option (Unit × twS)} (hk0 : ∀ (s : twS), K0 q (tw s q g) = (k0  s).map (zem q g)) (s : twS) : f_X6_advance_b26 E K0 q (tw s q g) = (t_X6_advance_b26 E k0  s).map (zem q g) := by
  unfold f_X6_advance_b26 t_X6_advance_b26
  refine tb1 (tw_gI_10 _ q g) ?_
  refine tb1 (tw_pI_10 _ q g _) ?_
  exact hk0  _
def t_X6_advance_b332 (E : zE) (s : twS) : Option (Unit × twS) :=
  some ((), s)
theorem ts_X6_advance_b332 (E : zE) (q : Nat) (g : zH) (s : twS) : f_X6_advance_b332 E  (tw s q g) = (t_X6_advance_b332 E  s).map (zem q g) := by
  unfold f_X6_advance_b332 t_X6_advance_b332
  rfl
def t_X6_advance_b327 (E : zE) (s : twS) : Option (Unit × twS) :=
  t_X6_advance_b332 E (uSc s 13 (4 : Int32))
theorem ts_X6_advance_b327 (E : zE) (q : Nat) (g : zH) (s : twS) : f_X6_advance_b327 E q (tw s q g) = (t_X6_advance_b327 E  s).map (zem q g) := by
  unfold f_X6_advance_b327 t_X6_advance_b327
  refine tb1 (tw_pI_13 _ q g _) ?_
  exact ts_X6_advance_b332 E q g   _
def t_X6_advance_b305 (E : zE) (s : twS) : Option (Unit × twS) :=
  if (tSc s 13) = (2 : Int32) then (
    if ((tSc s 10) - (tSc s 14)) ≤ (6 : Int32) then (
      t_X6_advance_b332 E s
    ) else (
      t_X6_advance_b327 E s
    )
  ) else (
    t_X6_advance_b332 E s
  )
theorem ts_X6_advance_b305 (E : zE) (q : Nat) (g : zH) (s : twS) : f_X6_advance_b305 E q (tw s q g) = (t_X6_advance_b305 E  s).map (zem q g) := by
  unfold f_X6_advance_b305 t_X6_advance_b305
  refine tb1 (tw_gI_13 _ q g) ?_
  refine tb6 ?_ ?_
  · refine tb1 (tw_gI_10 _ q g) ?_
    refine tb1 (tw_gI_14 _ q g) ?_
    refine tb6 ?_ ?_
    · exact ts_X6_advance_b332 E q g   _
    · exact ts_X6_advance_b327 E q g   _
  · exact ts_X6_advance_b332 E q g   _
def t_X6_advance_b283 (E : zE) (s : twS) : Option (Unit × twS) :=
  if (tSc s 13) = (1 : Int32) then (
    if (10 : Int32) < ((tSc s 10) - (tSc s 14)) then (
      t_X6_advance_b327 E s
    ) else (
      t_X6_advance_b305 E s
    )
  ) else (
    t_X6_advance_b305 E s
  )
theorem ts_X6_advance_b283 (E : zE) (q : Nat) (g : zH) (s : twS) : f_X6_advance_b283 E q (tw s q g) = (t_X6_advance_b283 E  s).map (zem q g) := by
  unfold f_X6_advance_b283 t_X6_advance_b283
  refine tb1 (tw_gI_13 _ q g) ?_
  refine tb6 ?_ ?_
  · refine tb1 (tw_gI_10 _ q g) ?_
    refine tb1 (tw_gI_14 _ q g) ?_
    refine tb6 ?_ ?_
    · exact ts_X6_advance_b327 E q g   _
    · exact ts_X6_advance_b305 E q g   _
  · exact ts_X6_advance_b305 E q g   _
def t_X6_advance_b270 (E : zE) (k208 : twS → Option (Unit × twS)) (s : twS) : Option (Unit × twS) :=
  k208 (uSc s 10 ((tSc s 10) + (1 : Int32)))
theorem ts_X6_advance_b270 (E : zE) (q : Nat) (g : zH) {K208 : Nat → zH → Option (Unit × zH)} {k208 : twS → Option (Unit × twS)} (hk208 : ∀ (s : twS), K208 q (tw s q g) = (k208  s).map (zem q g)) (s : twS) : f_X6_advance_b270 E K208 q (tw s q g) = (t_X6_advance_b270 E k208  s).map (zem q g) := by
  unfold f_X6_advance_b270 t_X6_advance_b270
  refine tb1 (tw_gI_10 _ q g) ?_
  refine tb1 (tw_pI_10 _ q g _) ?_
  exact hk208  _
def t_X6_advance_l208 (E : zE) : Nat → twS → Option (Unit × twS)
  | 0, _ => none
  | n + 1, s =>
    if (tSc s 13) = (2 : Int32) then (
      bnd2 (t_X6_byteAt E (tSc s 10) s) fun x9 s7_ =>
      bnd2 (t_X6_isDigit E x9 s7_) fun x12 s10_ =>
      if x12 = 0 then (
        t_X6_advance_b283 E s10_
      ) else (
        if (6 : Int32) ≤ ((tSc s10_ 10) - (tSc s10_ 14)) then (
          t_X6_advance_b270 E (t_X6_advance_l208 E n) s10_
        ) else (
          bnd2 (t_X6_byteAt E (tSc s10_ 10) s10_) fun x26 s24_ =>
          t_X6_advance_b270 E (t_X6_advance_l208 E n) (uVl s24_ (((s10_.2.2.2.2 * (10 : Int64)) + (x26.toInt64)) - (48 : Int64)))
        )
      )
    ) else (
      t_X6_advance_b283 E s
    )
theorem ts_X6_advance_l208 (E : zE) (q : Nat) (g : zH) : ∀ (n : Nat) (s : twS), f_X6_advance_l208 E n q (tw s q g) = (t_X6_advance_l208 E n  s).map (zem q g) := by
  intro n
  induction n with
  | zero => intros; rfl
  | succ n ih =>
    intro s
    unfold f_X6_advance_l208 t_X6_advance_l208
    refine tb1 (tw_gI_13 _ q g) ?_
    refine tb6 ?_ ?_
    · refine tb1 (tw_gI_10 _ q g) ?_
      refine tb1 (tw_cko _ q g) ?_
      refine tb5 (ts_X6_byteAt E q g  _  _) fun x9 s7_ => ?_
      refine tb5 (ts_X6_isDigit E q g  _  _) fun x12 s10_ => ?_
      refine tb6 ?_ ?_
      · exact ts_X6_advance_b283 E q g   _
      · refine tb1 (tw_gI_10 _ q g) ?_
        refine tb1 (tw_gI_14 _ q g) ?_
        refine tb6 ?_ ?_
        · exact ts_X6_advance_b270 E q g ih   _
        · refine tb1 (tw_gL_16 _ q g) ?_
          refine tb1 (tw_gI_10 _ q g) ?_
          refine tb1 (tw_cko _ q g) ?_
          refine tb5 (ts_X6_byteAt E q g  _  _) fun x26 s24_ => ?_
          refine tb1 (tw_pL_16 _ q g _) ?_
          exact ts_X6_advance_b270 E q g ih   _
    · exact ts_X6_advance_b283 E q g   _
def t_X6_advance_b195 (E : zE) (k133 : twS → Option (Unit × twS)) (s : twS) : Option (Unit × twS) :=
  k133 (uSc s 10 ((tSc s 10) + (1 : Int32)))
theorem ts_X6_advance_b195 (E : zE) (q : Nat) (g : zH) {K133 : Nat → zH → Option (Unit × zH)} {k133 : twS → Option (Unit × twS)} (hk133 : ∀ (s : twS), K133 q (tw s q g) = (k133  s).map (zem q g)) (s : twS) : f_X6_advance_b195 E K133 q (tw s q g) = (t_X6_advance_b195 E k133  s).map (zem q g) := by
  unfold f_X6_advance_b195 t_X6_advance_b195
  refine tb1 (tw_gI_10 _ q g) ?_
  refine tb1 (tw_pI_10 _ q g _) ?_
  exact hk133  _
def t_X6_advance_l133 (E : zE) : Nat → twS → Option (Unit × twS)
  | 0, _ => none
  | n + 1, s =>
    if (tSc s 13) = (1 : Int32) then (
      bnd2 (t_X6_byteAt E (tSc s 10) s) fun x9 s7_ =>
      bnd2 (t_X6_isLetter E x9 s7_) fun x12 s10_ =>
      if x12 = 0 then (
        t_X6_advance_l208 E E.1 s10_
      ) else (
        if (10 : Int32) ≤ ((tSc s10_ 10) - (tSc s10_ 14)) then (
          t_X6_advance_b195 E (t_X6_advance_l133 E n) s10_
        ) else (
          bnd2 (t_X6_byteAt E (tSc s10_ 10) s10_) fun x26 s24_ =>
          t_X6_advance_b195 E (t_X6_advance_l133 E n) (uVl s24_ (((s10_.2.2.2.2 * (32 : Int64)) + (x26.toInt64)) - (96 : Int64)))
        )
      )
    ) else (
      t_X6_advance_l208 E E.1 s
    )
theorem ts_X6_advance_l133 (E : zE) (q : Nat) (g : zH) : ∀ (n : Nat) (s : twS), f_X6_advance_l133 E n q (tw s q g) = (t_X6_advance_l133 E n  s).map (zem q g) := by
  intro n
  induction n with
  | zero => intros; rfl
  | succ n ih =>
    intro s
    unfold f_X6_advance_l133 t_X6_advance_l133
    refine tb1 (tw_gI_13 _ q g) ?_
    refine tb6 ?_ ?_
    · refine tb1 (tw_gI_10 _ q g) ?_
      refine tb1 (tw_cko _ q g) ?_
      refine tb5 (ts_X6_byteAt E q g  _  _) fun x9 s7_ => ?_
      refine tb5 (ts_X6_isLetter E q g  _  _) fun x12 s10_ => ?_
      refine tb6 ?_ ?_
      · exact ts_X6_advance_l208 E q g E.1  _
      · refine tb1 (tw_gI_10 _ q g) ?_
        refine tb1 (tw_gI_14 _ q g) ?_
        refine tb6 ?_ ?_
        · exact ts_X6_advance_b195 E q g ih   _
        · refine tb1 (tw_gL_16 _ q g) ?_
          refine tb1 (tw_gI_10 _ q g) ?_
          refine tb1 (tw_cko _ q g) ?_
          refine tb5 (ts_X6_byteAt E q g  _  _) fun x26 s24_ => ?_
          refine tb1 (tw_pL_16 _ q g _) ?_
          exact ts_X6_advance_b195 E q g ih   _
    · exact ts_X6_advance_l208 E q g E.1  _
def t_X6_advance_b123 (E : zE) (s : twS) : Option (Unit × twS) :=
  t_X6_advance_l133 E E.1 (uSc s 10 ((tSc s 10) + (1 : Int32)))
theorem ts_X6_advance_b123 (E : zE) (q : Nat) (g : zH) (s : twS) : f_X6_advance_b123 E q (tw s q g) = (t_X6_advance_b123 E  s).map (zem q g) := by
  unfold f_X6_advance_b123 t_X6_advance_b123
  refine tb1 (tw_gI_10 _ q g) ?_
  refine tb1 (tw_pI_10 _ q g _) ?_
  exact ts_X6_advance_l133 E q g E.1  _
def t_X6_advance_b104 (E : zE) (s1 : Int32) (s : twS) : Option (Unit × twS) :=
  if (tSc (uSc s 13 s1) 13) = (3 : Int32) then (
    t_X6_advance_b123 E (uSc s 13 s1)
  ) else (
    if (tSc (uSc s 13 s1) 13) = (4 : Int32) then (
      t_X6_advance_b123 E (uSc s 13 s1)
    ) else (
      t_X6_advance_l133 E E.1 (uSc s 13 s1)
    )
  )
theorem ts_X6_advance_b104 (E : zE) (q : Nat) (g : zH) (s1 : Int32) (s : twS) : f_X6_advance_b104 E q q s1 (tw s q g) = (t_X6_advance_b104 E s1 s).map (zem q g) := by
  unfold f_X6_advance_b104 t_X6_advance_b104
  refine tb1 (tw_pI_13 _ q g _) ?_
  refine tb1 (tw_gI_13 _ q g) ?_
  refine tb6 ?_ ?_
  · exact ts_X6_advance_b123 E q g   _
  · refine tb1 (tw_gI_13 _ q g) ?_
    refine tb6 ?_ ?_
    · exact ts_X6_advance_b123 E q g   _
    · exact ts_X6_advance_l133 E q g E.1  _
def t_X6_advance_l0 (E : zE) : Nat → twS → Option (Unit × twS)
  | 0, _ => none
  | n + 1, s =>
    bnd2 (t_X6_byteAt E (tSc s 10) s) fun x6 s4_ =>
    if x6 = (32 : Int32) then (
      t_X6_advance_b26 E (t_X6_advance_l0 E n) s4_
    ) else (
      bnd2 (t_X6_byteAt E (tSc s4_ 10) s4_) fun x13 s11_ =>
      if x13 = (10 : Int32) then (
        t_X6_advance_b26 E (t_X6_advance_l0 E n) s11_
      ) else (
        bnd2 (t_X6_byteAt E (tSc (uVl (uSc s11_ 14 (tSc s11_ 10)) (0 : Int64)) 14) (uVl (uSc s11_ 14 (tSc s11_ 10)) (0 : Int64))) fun x26 s24_ =>
        if x26 = (-1 : Int32) then (
          t_X6_advance_b104 E (0 : Int32) s24_
        ) else (
          bnd2 (t_X6_isLetter E x26 s24_) fun x30 s28_ =>
          if x30 = 0 then (
            bnd2 (t_X6_isDigit E x26 s28_) fun x34 s32_ =>
            if x34 = 0 then (
              if x26 = (59 : Int32) then (
                t_X6_advance_b104 E (3 : Int32) s32_
              ) else (
                t_X6_advance_b104 E (4 : Int32) s32_
              )
            ) else (
              t_X6_advance_b104 E (2 : Int32) s32_
            )
          ) else (
            t_X6_advance_b104 E (1 : Int32) s28_
          )
        )
      )
    )
theorem ts_X6_advance_l0 (E : zE) (q : Nat) (g : zH) : ∀ (n : Nat) (s : twS), f_X6_advance_l0 E n q (tw s q g) = (t_X6_advance_l0 E n  s).map (zem q g) := by
  intro n
  induction n with
  | zero => intros; rfl
  | succ n ih =>
    intro s
    unfold f_X6_advance_l0 t_X6_advance_l0
    refine tb1 (tw_gI_10 _ q g) ?_
    refine tb1 (tw_cko _ q g) ?_
    refine tb5 (ts_X6_byteAt E q g  _  _) fun x6 s4_ => ?_
    refine tb6 ?_ ?_
    · exact ts_X6_advance_b26 E q g ih   _
    · refine tb1 (tw_gI_10 _ q g) ?_
      refine tb1 (tw_cko _ q g) ?_
      refine tb5 (ts_X6_byteAt E q g  _  _) fun x13 s11_ => ?_
      refine tb6 ?_ ?_
      · exact ts_X6_advance_b26 E q g ih   _
      · refine tb1 (tw_gI_10 _ q g) ?_
        refine tb1 (tw_pI_14 _ q g _) ?_
        refine tb1 (tw_pL_16 _ q g _) ?_
        refine tb1 (tw_gI_14 _ q g) ?_
        refine tb1 (tw_cko _ q g) ?_
        refine tb5 (ts_X6_byteAt E q g  _  _) fun x26 s24_ => ?_
        refine tb6 ?_ ?_
        · exact ts_X6_advance_b104 E q g  _  _
        · refine tb5 (ts_X6_isLetter E q g  _  _) fun x30 s28_ => ?_
          refine tb6 ?_ ?_
          · refine tb5 (ts_X6_isDigit E q g  _  _) fun x34 s32_ => ?_
            refine tb6 ?_ ?_
            · refine tb6 ?_ ?_
              · exact ts_X6_advance_b104 E q g  _  _
              · exact ts_X6_advance_b104 E q g  _  _
            · exact ts_X6_advance_b104 E q g  _  _
          · exact ts_X6_advance_b104 E q g  _  _
def t_X6_advance (E : zE) (s : twS) : Option (Unit × twS) :=
  t_X6_advance_l0 E E.1 s
theorem ts_X6_advance (E : zE) (q : Nat) (g : zH) (s : twS) : f_X6_advance E q (tw s q g) = (t_X6_advance E  s).map (zem q g) := by
  unfold f_X6_advance t_X6_advance
  exact ts_X6_advance_l0 E q g E.1  _
def t_X6_beginText_b0 (E : zE) (s : twS) : Option (Unit × twS) :=
  bnd2 (t_X6_advance E (uSc (uSc (uSc s 11 (0 : Int32)) 12 (-1 : Int32)) 10 (0 : Int32))) fun x10 s8_ =>
  some ((), s8_)
theorem ts_X6_beginText_b0 (E : zE) (q : Nat) (g : zH) (s : twS) : f_X6_beginText_b0 E q (tw s q g) = (t_X6_beginText_b0 E  s).map (zem q g) := by
  unfold f_X6_beginText_b0 t_X6_beginText_b0
  refine tb1 (tw_pI_11 _ q g _) ?_
  refine tb1 (tw_pI_12 _ q g _) ?_
  refine tb1 (tw_pI_10 _ q g _) ?_
  refine tb1 (tw_cko _ q g) ?_
  refine tb5 (ts_X6_advance E q g   _) fun x10 s8_ => ?_
  rfl
def t_X6_beginText (E : zE) (s : twS) : Option (Unit × twS) :=
  t_X6_beginText_b0 E s
theorem ts_X6_beginText (E : zE) (q : Nat) (g : zH) (s : twS) : f_X6_beginText E q (tw s q g) = (t_X6_beginText E  s).map (zem q g) := by
  unfold f_X6_beginText t_X6_beginText
  exact ts_X6_beginText_b0 E q g   _
def t_X6_statement_b301 (E : zE) (s0 : Int32) (s : twS) : Option (Int32 × twS) :=
  some (s0, s)
theorem ts_X6_statement_b301 (E : zE) (q : Nat) (g : zH) (s0 : Int32) (s : twS) : f_X6_statement_b301 E s0 (tw s q g) = (t_X6_statement_b301 E s0 s).map (zem q g) := by
  unfold f_X6_statement_b301 t_X6_statement_b301
  rfl
def t_X6_statement_b0 (E : zE) (s : twS) : Option (Int32 × twS) :=
  if (tSc s 13) = (1 : Int32) then (
    bnd2 (t_X6_pack E (112 : Int32) (108 : Int32) (97 : Int32) (110 : Int32) (0 : Int32) s) fun x8 s6_ =>
    if s.2.2.2.2 = x8 then (
      some ((0 : Int32), s6_)
    ) else (
      bnd2 (t_X6_pack E (102 : Int32) (114 : Int32) (97 : Int32) (110 : Int32) (99 : Int32) s6_) fun x14 s12_ =>
      bnd2 (t_X6_pack E (104 : Int32) (105 : Int32) (115 : Int32) (101 : Int32) (101 : Int32) s12_) fun x17 s15_ =>
      if s6_.2.2.2.2 = ((x14 * (33554432 : Int64)) + x17) then (
        some ((1 : Int32), s15_)
      ) else (
        bnd2 (t_X6_pack E (97 : Int32) (114 : Int32) (101 : Int32) (97 : Int32) (0 : Int32) s15_) fun x23 s21_ =>
        if s15_.2.2.2.2 = x23 then (
          some ((2 : Int32), s21_)
        ) else (
          bnd2 (t_X6_pack E (111 : Int32) (117 : Int32) (116 : Int32) (108 : Int32) (101 : Int32) s21_) fun x29 s27_ =>
          if s21_.2.2.2.2 = (((x29 * (32 : Int64)) + (116 : Int64)) - (96 : Int64)) then (
            some ((3 : Int32), s27_)
          ) else (
            bnd2 (t_X6_pack E (99 : Int32) (114 : Int32) (101 : Int32) (100 : Int32) (105 : Int32) s27_) fun x35 s33_ =>
            if s27_.2.2.2.2 = (((x35 * (32 : Int64)) + (116 : Int64)) - (96 : Int64)) then (
              some ((4 : Int32), s33_)
            ) else (
              bnd2 (t_X6_pack E (105 : Int32) (110 : Int32) (116 : Int32) (101 : Int32) (114 : Int32) s33_) fun x41 s39_ =>
              bnd2 (t_X6_pack E (101 : Int32) (115 : Int32) (116 : Int32) (0 : Int32) (0 : Int32) s39_) fun x44 s42_ =>
              if s33_.2.2.2.2 = ((x41 * (32768 : Int64)) + x44) then (
                some ((5 : Int32), s42_)
              ) else (
                bnd2 (t_X6_pack E (97 : Int32) (100 : Int32) (109 : Int32) (105 : Int32) (110 : Int32) s42_) fun x50 s48_ =>
                if s42_.2.2.2.2 = x50 then (
                  some ((6 : Int32), s48_)
                ) else (
                  bnd2 (t_X6_pack E (102 : Int32) (101 : Int32) (101 : Int32) (0 : Int32) (0 : Int32) s48_) fun x56 s54_ =>
                  if s48_.2.2.2.2 = x56 then (
                    some ((7 : Int32), s54_)
                  ) else (
                    bnd2 (t_X6_pack E (100 : Int32) (101 : Int32) (108 : Int32) (97 : Int32) (121 : Int32) s54_) fun x62 s60_ =>
                    if s54_.2.2.2.2 = x62 then (
                      some ((8 : Int32), s60_)
                    ) else (
                      bnd2 (t_X6_pack E (119 : Int32) (111 : Int32) (114 : Int32) (116 : Int32) (104 : Int32) s60_) fun x68 s66_ =>
                      if s60_.2.2.2.2 = x68 then (
                        t_X6_statement_b301 E (9 : Int32) s66_
                      ) else (
                        t_X6_statement_b301 E (-1 : Int32) s66_
                      )
                    )
                  )
                )
              )
            )
          )
        )
      )
    )
  ) else (
    some ((-1 : Int32), s)
  )
theorem ts_X6_statement_b0 (E : zE) (q : Nat) (g : zH) (s : twS) : f_X6_statement_b0 E q (tw s q g) = (t_X6_statement_b0 E  s).map (zem q g) := by
  unfold f_X6_statement_b0 t_X6_statement_b0
  refine tb1 (tw_gI_13 _ q g) ?_
  refine tb6 ?_ ?_
  · refine tb1 (tw_gL_16 _ q g) ?_
    refine tb5 (ts_X6_pack E q g  _ _ _ _ _  _) fun x8 s6_ => ?_
    refine tb6 ?_ ?_
    · rfl
    · refine tb1 (tw_gL_16 _ q g) ?_
      refine tb5 (ts_X6_pack E q g  _ _ _ _ _  _) fun x14 s12_ => ?_
      refine tb5 (ts_X6_pack E q g  _ _ _ _ _  _) fun x17 s15_ => ?_
      refine tb6 ?_ ?_
      · rfl
      · refine tb1 (tw_gL_16 _ q g) ?_
        refine tb5 (ts_X6_pack E q g  _ _ _ _ _  _) fun x23 s21_ => ?_
        refine tb6 ?_ ?_
        · rfl
        · refine tb1 (tw_gL_16 _ q g) ?_
          refine tb5 (ts_X6_pack E q g  _ _ _ _ _  _) fun x29 s27_ => ?_
          refine tb6 ?_ ?_
          · rfl
          · refine tb1 (tw_gL_16 _ q g) ?_
            refine tb5 (ts_X6_pack E q g  _ _ _ _ _  _) fun x35 s33_ => ?_
            refine tb6 ?_ ?_
            · rfl
            · refine tb1 (tw_gL_16 _ q g) ?_
              refine tb5 (ts_X6_pack E q g  _ _ _ _ _  _) fun x41 s39_ => ?_
              refine tb5 (ts_X6_pack E q g  _ _ _ _ _  _) fun x44 s42_ => ?_
              refine tb6 ?_ ?_
              · rfl
              · refine tb1 (tw_gL_16 _ q g) ?_
                refine tb5 (ts_X6_pack E q g  _ _ _ _ _  _) fun x50 s48_ => ?_
                refine tb6 ?_ ?_
                · rfl
                · refine tb1 (tw_gL_16 _ q g) ?_
                  refine tb5 (ts_X6_pack E q g  _ _ _ _ _  _) fun x56 s54_ => ?_
                  refine tb6 ?_ ?_
                  · rfl
                  · refine tb1 (tw_gL_16 _ q g) ?_
                    refine tb5 (ts_X6_pack E q g  _ _ _ _ _  _) fun x62 s60_ => ?_
                    refine tb6 ?_ ?_
                    · rfl
                    · refine tb1 (tw_gL_16 _ q g) ?_
                      refine tb5 (ts_X6_pack E q g  _ _ _ _ _  _) fun x68 s66_ => ?_
                      refine tb6 ?_ ?_
                      · exact ts_X6_statement_b301 E q g  _  _
                      · exact ts_X6_statement_b301 E q g  _  _
  · rfl
def t_X6_statement (E : zE) (s : twS) : Option (Int32 × twS) :=
  t_X6_statement_b0 E s
theorem ts_X6_statement (E : zE) (q : Nat) (g : zH) (s : twS) : f_X6_statement E q (tw s q g) = (t_X6_statement E  s).map (zem q g) := by
  unfold f_X6_statement t_X6_statement
  exact ts_X6_statement_b0 E q g   _
def t_X6_fail_b0 (E : zE) (p1 : Int32) (s : twS) : Option (Int32 × twS) :=
  some ((0 : Int32), (uSc (uSc s 11 p1) 12 (tSc (uSc s 11 p1) 14)))
theorem ts_X6_fail_b0 (E : zE) (q : Nat) (g : zH) (p1 : Int32) (s : twS) : f_X6_fail_b0 E q p1 (tw s q g) = (t_X6_fail_b0 E p1 s).map (zem q g) := by
  unfold f_X6_fail_b0 t_X6_fail_b0
  refine tb1 (tw_pI_11 _ q g _) ?_
  refine tb1 (tw_gI_14 _ q g) ?_
  refine tb1 (tw_pI_12 _ q g _) ?_
  rfl
def t_X6_fail (E : zE) (p1 : Int32) (s : twS) : Option (Int32 × twS) :=
  t_X6_fail_b0 E p1 s
theorem ts_X6_fail (E : zE) (q : Nat) (g : zH) (p1 : Int32) (s : twS) : f_X6_fail E q p1 (tw s q g) = (t_X6_fail E p1 s).map (zem q g) := by
  unfold f_X6_fail t_X6_fail
  exact ts_X6_fail_b0 E q g  _  _
def t_X6_readNumber_b0 (E : zE) (p1 : Int32) (p2 : Int32) (s : twS) : Option (Int32 × twS) :=
  if (tSc s 13) = (2 : Int32) then (
    bnd2 (t_X6_inRange E s.2.2.2.2 (p1.toInt64) (p2.toInt64) s) fun x8 s6_ =>
    if x8 = 0 then (
      bnd2 (t_X6_fail E (2 : Int32) s6_) fun x21 s19_ =>
      (zgd .boolean x21).bind fun _ =>
      some (x21, s19_)
    ) else (
      bnd2 (t_X6_advance E (uSc s6_ 15 (s6_.2.2.2.2.toInt32))) fun x17 s15_ =>
      some ((1 : Int32), s15_)
    )
  ) else (
    bnd2 (t_X6_fail E (1 : Int32) s) fun x26 s24_ =>
    (zgd .boolean x26).bind fun _ =>
    some (x26, s24_)
  )
theorem ts_X6_readNumber_b0 (E : zE) (q : Nat) (g : zH) (p1 : Int32) (p2 : Int32) (s : twS) : f_X6_readNumber_b0 E q p1 p2 (tw s q g) = (t_X6_readNumber_b0 E p1 p2 s).map (zem q g) := by
  unfold f_X6_readNumber_b0 t_X6_readNumber_b0
  refine tb1 (tw_gI_13 _ q g) ?_
  refine tb6 ?_ ?_
  · refine tb1 (tw_gL_16 _ q g) ?_
    refine tb5 (ts_X6_inRange E q g  _ _ _  _) fun x8 s6_ => ?_
    refine tb6 ?_ ?_
    · refine tb1 (tw_cko _ q g) ?_
      refine tb5 (ts_X6_fail E q g  _  _) fun x21 s19_ => ?_
      refine tb2 rfl fun _ => ?_
      rfl
    · refine tb1 (tw_gL_16 _ q g) ?_
      refine tb1 (tw_pI_15 _ q g _) ?_
      refine tb1 (tw_cko _ q g) ?_
      refine tb5 (ts_X6_advance E q g   _) fun x17 s15_ => ?_
      rfl
  · refine tb1 (tw_cko _ q g) ?_
    refine tb5 (ts_X6_fail E q g  _  _) fun x26 s24_ => ?_
    refine tb2 rfl fun _ => ?_
    rfl
def t_X6_readNumber (E : zE) (p1 : Int32) (p2 : Int32) (s : twS) : Option (Int32 × twS) :=
  t_X6_readNumber_b0 E p1 p2 s
theorem ts_X6_readNumber (E : zE) (q : Nat) (g : zH) (p1 : Int32) (p2 : Int32) (s : twS) : f_X6_readNumber E q p1 p2 (tw s q g) = (t_X6_readNumber E p1 p2 s).map (zem q g) := by
  unfold f_X6_readNumber t_X6_readNumber
  exact ts_X6_readNumber_b0 E q g  _ _  _
def t_X6_readInto_b0 (E : zE) (p1 : Int32) (p2 : Int32) (p3 : Int32) (p4 : Int64) (s : twS) : Option (Int32 × twS) :=
  bnd2 (t_X6_readNumber E p2 p3 s) fun x4 s2_ =>
  if x4 = 0 then (
    some ((0 : Int32), s2_)
  ) else (
    (tsL s2_ 1 p1 (((tSc s2_ 15).toInt64) * p4)).bind fun s10_ =>
    some ((1 : Int32), s10_)
  )
theorem ts_X6_readInto_b0 (E : zE) (q : Nat) (g : zH) (p1 : Int32) (p2 : Int32) (p3 : Int32) (p4 : Int64) (s : twS) : f_X6_readInto_b0 E q p1 p2 p3 p4 (tw s q g) = (t_X6_readInto_b0 E p1 p2 p3 p4 s).map (zem q g) := by
  unfold f_X6_readInto_b0 t_X6_readInto_b0
  refine tb1 (tw_cko _ q g) ?_
  refine tb5 (ts_X6_readNumber E q g  _ _  _) fun x4 s2_ => ?_
  refine tb6 ?_ ?_
  · rfl
  · refine tb1 (tw_gR_0 _ q g) ?_
    refine tb1 (tw_gI_15 _ q g) ?_
    refine tb4 (tw_sL _ q g (by decide) _ _ ) fun s10_ => ?_
    rfl
def t_X6_readInto (E : zE) (p1 : Int32) (p2 : Int32) (p3 : Int32) (p4 : Int64) (s : twS) : Option (Int32 × twS) :=
  t_X6_readInto_b0 E p1 p2 p3 p4 s
theorem ts_X6_readInto (E : zE) (q : Nat) (g : zH) (p1 : Int32) (p2 : Int32) (p3 : Int32) (p4 : Int64) (s : twS) : f_X6_readInto E q p1 p2 p3 p4 (tw s q g) = (t_X6_readInto E p1 p2 p3 p4 s).map (zem q g) := by
  unfold f_X6_readInto t_X6_readInto
  exact ts_X6_readInto_b0 E q g  _ _ _ _  _
def t_X6_readEnd_b0 (E : zE) (s : twS) : Option (Int32 × twS) :=
  if (tSc s 13) = (3 : Int32) then (
    bnd2 (t_X6_advance E s) fun x7 s5_ =>
    some ((1 : Int32), s5_)
  ) else (
    bnd2 (t_X6_fail E (1 : Int32) s) fun x11 s9_ =>
    (zgd .boolean x11).bind fun _ =>
    some (x11, s9_)
  )
theorem ts_X6_readEnd_b0 (E : zE) (q : Nat) (g : zH) (s : twS) : f_X6_readEnd_b0 E q (tw s q g) = (t_X6_readEnd_b0 E  s).map (zem q g) := by
  unfold f_X6_readEnd_b0 t_X6_readEnd_b0
  refine tb1 (tw_gI_13 _ q g) ?_
  refine tb6 ?_ ?_
  · refine tb1 (tw_cko _ q g) ?_
    refine tb5 (ts_X6_advance E q g   _) fun x7 s5_ => ?_
    rfl
  · refine tb1 (tw_cko _ q g) ?_
    refine tb5 (ts_X6_fail E q g  _  _) fun x11 s9_ => ?_
    refine tb2 rfl fun _ => ?_
    rfl
def t_X6_readEnd (E : zE) (s : twS) : Option (Int32 × twS) :=
  t_X6_readEnd_b0 E s
theorem ts_X6_readEnd (E : zE) (q : Nat) (g : zH) (s : twS) : f_X6_readEnd E q (tw s q g) = (t_X6_readEnd E  s).map (zem q g) := by
  unfold f_X6_readEnd t_X6_readEnd
  exact ts_X6_readEnd_b0 E q g   _
def t_X6_readPlan_b72 (E : zE) (s : twS) : Option (Int32 × twS) :=
  some ((0 : Int32), s)
theorem ts_X6_readPlan_b72 (E : zE) (q : Nat) (g : zH) (s : twS) : f_X6_readPlan_b72 E  (tw s q g) = (t_X6_readPlan_b72 E  s).map (zem q g) := by
  unfold f_X6_readPlan_b72 t_X6_readPlan_b72
  rfl
def t_X6_readPlan_l78 (E : zE) : Nat → Int32 → Int32 → Int32 → twS → Option (Int32 × twS)
  | 0, _, _, _, _ => none
  | n + 1, p1, p2, p3, s =>
    if (tSc s 13) = (2 : Int32) then (
      bnd2 (t_X6_inRange E s.2.2.2.2 (p2.toInt64) (99999 : Int64) s) fun x19 s17_ =>
      if x19 = 0 then (
        bnd2 (t_X6_fail E (2 : Int32) s17_) fun x53 s51_ =>
        (zgd .boolean x53).bind fun _ =>
        some (x53, s51_)
      ) else (
        if p3 = (4 : Int32) then (
          bnd2 (t_X6_fail E (4 : Int32) s17_) fun x48 s46_ =>
          (zgd .boolean x48).bind fun _ =>
          some (x48, s46_)
        ) else (
          (tsL s17_ 1 ((p1 + (3 : Int32)) + p3) (s17_.2.2.2.2 * (100 : Int64))).bind fun s28_ =>
          bnd2 (t_X6_advance E s28_) fun x33 s31_ =>
          bnd2 (t_X6_readInto E ((p1 + (7 : Int32)) + p3) (0 : Int32) (3000 : Int32) (1 : Int64) s31_) fun x37 s35_ =>
          if x37 = 0 then (
            some ((0 : Int32), s35_)
          ) else (
            (tdL s35_ 1 (p1 + (2 : Int32))).bind fun x41 =>
            (tsL s35_ 1 (p1 + (2 : Int32)) (x41 + (1 : Int64))).bind fun s43_ =>
            t_X6_readPlan_l78 E n p1 ((s17_.2.2.2.2.toInt32) + (1 : Int32)) (p3 + 1) s43_
          )
        )
      )
    ) else (
      (tdL s 1 (15163 : Int32)).bind fun x6 =>
      (tsL s 1 (15163 : Int32) (x6 + (1 : Int64))).bind fun s8_ =>
      bnd2 (t_X6_readEnd E s8_) fun x13 s11_ =>
      (zgd .boolean x13).bind fun _ =>
      some (x13, s11_)
    )
theorem ts_X6_readPlan_l78 (E : zE) (q : Nat) (g : zH) : ∀ (n : Nat) (p1 : Int32) (p2 : Int32) (p3 : Int32) (s : twS), f_X6_readPlan_l78 E n q p1 p2 p3 (tw s q g) = (t_X6_readPlan_l78 E n p1 p2 p3 s).map (zem q g) := by
  intro n
  induction n with
  | zero => intros; rfl
  | succ n ih =>
    intro p1 p2 p3 s
    unfold f_X6_readPlan_l78 t_X6_readPlan_l78
    refine tb1 (tw_gI_13 _ q g) ?_
    refine tb6 ?_ ?_
    · refine tb1 (tw_gL_16 _ q g) ?_
      refine tb5 (ts_X6_inRange E q g  _ _ _  _) fun x19 s17_ => ?_
      refine tb6 ?_ ?_
      · refine tb1 (tw_cko _ q g) ?_
        refine tb5 (ts_X6_fail E q g  _  _) fun x53 s51_ => ?_
        refine tb2 rfl fun _ => ?_
        rfl
      · refine tb6 ?_ ?_
        · refine tb1 (tw_cko _ q g) ?_
          refine tb5 (ts_X6_fail E q g  _  _) fun x48 s46_ => ?_
          refine tb2 rfl fun _ => ?_
          rfl
        · refine tb1 (tw_gL_16 _ q g) ?_
          refine tb1 (tw_gR_0 _ q g) ?_
          refine tb1 (tw_gL_16 _ q g) ?_
          refine tb4 (tw_sL _ q g (by decide) _ _ ) fun s28_ => ?_
          refine tb1 (tw_cko _ q g) ?_
          refine tb5 (ts_X6_advance E q g   _) fun x33 s31_ => ?_
          refine tb1 (tw_cko _ q g) ?_
          refine tb5 (ts_X6_readInto E q g  _ _ _ _  _) fun x37 s35_ => ?_
          refine tb6 ?_ ?_
          · rfl
          · refine tb1 (tw_gR_0 _ q g) ?_
            refine tb2 (tw_dL _ q g (by decide) _ ) fun x41 => ?_
            refine tb4 (tw_sL _ q g (by decide) _ _ ) fun s43_ => ?_
            exact ih _ _ _  _
    · refine tb1 (tw_gR_0 _ q g) ?_
      refine tb2 (tw_dL _ q g (by decide) _ ) fun x6 => ?_
      refine tb4 (tw_sL _ q g (by decide) _ _ ) fun s8_ => ?_
      refine tb1 (tw_cko _ q g) ?_
      refine tb5 (ts_X6_readEnd E q g   _) fun x13 s11_ => ?_
      refine tb2 rfl fun _ => ?_
      rfl
def t_X6_readPlan_b0 (E : zE) (s : twS) : Option (Int32 × twS) :=
  (tdL s 1 (15163 : Int32)).bind fun x3 =>
  if x3 = (4 : Int64) then (
    bnd2 (t_X6_fail E (4 : Int32) s) fun x27 s25_ =>
    (zgd .boolean x27).bind fun _ =>
    some (x27, s25_)
  ) else (
    bnd2 (t_X6_advance E s) fun x9 s7_ =>
    (tdL s7_ 1 (15163 : Int32)).bind fun x12 =>
    bnd2 (t_X6_readInto E (((15176 : Int32) + ((11 : Int32) * (x12.toInt32))) + (0 : Int32)) (0 : Int32) (1000 : Int32) (1 : Int64) s7_) fun x17 s15_ =>
    if x17 = 0 then (
      t_X6_readPlan_b72 E s15_
    ) else (
      bnd2 (t_X6_readInto E (((15176 : Int32) + ((11 : Int32) * (x12.toInt32))) + (1 : Int32)) (0 : Int32) (3000 : Int32) (1 : Int64) s15_) fun x22 s20_ =>
      if x22 = 0 then (
        t_X6_readPlan_b72 E s20_
      ) else (
        t_X6_readPlan_l78 E E.1 ((15176 : Int32) + ((11 : Int32) * (x12.toInt32))) (1 : Int32) (0 : Int32) s20_
      )
    )
  )
theorem ts_X6_readPlan_b0 (E : zE) (q : Nat) (g : zH) (s : twS) : f_X6_readPlan_b0 E q (tw s q g) = (t_X6_readPlan_b0 E  s).map (zem q g) := by
  unfold f_X6_readPlan_b0 t_X6_readPlan_b0
  refine tb1 (tw_gR_0 _ q g) ?_
  refine tb2 (tw_dL _ q g (by decide) _ ) fun x3 => ?_
  refine tb6 ?_ ?_
  · refine tb1 (tw_cko _ q g) ?_
    refine tb5 (ts_X6_fail E q g  _  _) fun x27 s25_ => ?_
    refine tb2 rfl fun _ => ?_
    rfl
  · refine tb1 (tw_cko _ q g) ?_
    refine tb5 (ts_X6_advance E q g   _) fun x9 s7_ => ?_
    refine tb1 (tw_gR_0 _ q g) ?_
    refine tb2 (tw_dL _ q g (by decide) _ ) fun x12 => ?_
    refine tb1 (tw_cko _ q g) ?_
    refine tb5 (ts_X6_readInto E q g  _ _ _ _  _) fun x17 s15_ => ?_
    refine tb6 ?_ ?_
    · exact ts_X6_readPlan_b72 E q g   _
    · refine tb1 (tw_cko _ q g) ?_
      refine tb5 (ts_X6_readInto E q g  _ _ _ _  _) fun x22 s20_ => ?_
      refine tb6 ?_ ?_
      · exact ts_X6_readPlan_b72 E q g   _
      · exact ts_X6_readPlan_l78 E q g E.1 _ _ _  _
def t_X6_readPlan (E : zE) (s : twS) : Option (Int32 × twS) :=
  t_X6_readPlan_b0 E s
theorem ts_X6_readPlan (E : zE) (q : Nat) (g : zH) (s : twS) : f_X6_readPlan E q (tw s q g) = (t_X6_readPlan E  s).map (zem q g) := by
  unfold f_X6_readPlan t_X6_readPlan
  exact ts_X6_readPlan_b0 E q g   _
def t_X6_named_l3 (E : zE) : Nat → Int32 → Int64 → Int32 → twS → Option (Int32 × twS)
  | 0, _, _, _, _ => none
  | n + 1, p1, p2, p4, s =>
    (tdL s 1 (((5054 : Int32) * p1) + (2 : Int32))).bind fun x3 =>
    if x3 ≤ (p4.toInt64) then (
      some ((-1 : Int32), s)
    ) else (
      (tdL s 1 (((((5054 : Int32) * p1) + (58 : Int32)) + ((16 : Int32) * p4)) + (0 : Int32))).bind fun x8 =>
      if x8 = p2 then (
        some (p4, s)
      ) else (
        t_X6_named_l3 E n p1 p2 (p4 + 1) s
      )
    )
theorem ts_X6_named_l3 (E : zE) (q : Nat) (g : zH) : ∀ (n : Nat) (p1 : Int32) (p2 : Int64) (p4 : Int32) (s : twS), f_X6_named_l3 E n q p1 p2 p4 (tw s q g) = (t_X6_named_l3 E n p1 p2 p4 s).map (zem q g) := by
  intro n
  induction n with
  | zero => intros; rfl
  | succ n ih =>
    intro p1 p2 p4 s
    unfold f_X6_named_l3 t_X6_named_l3
    refine tb1 (tw_gR_0 _ q g) ?_
    refine tb2 (tw_dL _ q g (by decide) _ ) fun x3 => ?_
    refine tb6 ?_ ?_
    · rfl
    · refine tb1 (tw_gR_0 _ q g) ?_
      refine tb2 (tw_dL _ q g (by decide) _ ) fun x8 => ?_
      refine tb6 ?_ ?_
      · rfl
      · exact ih _ _ _  _
def t_X6_named_b0 (E : zE) (p1 : Int32) (p2 : Int64) (s : twS) : Option (Int32 × twS) :=
  t_X6_named_l3 E E.1 p1 p2 (0 : Int32) s
theorem ts_X6_named_b0 (E : zE) (q : Nat) (g : zH) (p1 : Int32) (p2 : Int64) (s : twS) : f_X6_named_b0 E q p1 p2 (tw s q g) = (t_X6_named_b0 E p1 p2 s).map (zem q g) := by
  unfold f_X6_named_b0 t_X6_named_b0
  exact ts_X6_named_l3 E q g E.1 _ _ _  _
def t_X6_named (E : zE) (p1 : Int32) (p2 : Int64) (s : twS) : Option (Int32 × twS) :=
  t_X6_named_b0 E p1 p2 s
theorem ts_X6_named (E : zE) (q : Nat) (g : zH) (p1 : Int32) (p2 : Int64) (s : twS) : f_X6_named E q p1 p2 (tw s q g) = (t_X6_named E p1 p2 s).map (zem q g) := by
  unfold f_X6_named t_X6_named
  exact ts_X6_named_b0 E q g  _ _  _
def t_X6_readFranchisee_b41 (E : zE) (s : twS) : Option (Int32 × twS) :=
  bnd2 (t_X6_fail E (1 : Int32) s) fun x4 s2_ =>
  (zgd .boolean x4).bind fun _ =>
  some (x4, s2_)
theorem ts_X6_readFranchisee_b41 (E : zE) (q : Nat) (g : zH) (s : twS) : f_X6_readFranchisee_b41 E q (tw s q g) = (t_X6_readFranchisee_b41 E  s).map (zem q g) := by
  unfold f_X6_readFranchisee_b41 t_X6_readFranchisee_b41
  refine tb1 (tw_cko _ q g) ?_
  refine tb5 (ts_X6_fail E q g  _  _) fun x4 s2_ => ?_
  refine tb2 rfl fun _ => ?_
  rfl
def t_X6_readFranchisee_b137 (E : zE) (s : twS) : Option (Int32 × twS) :=
  some ((0 : Int32), s)
theorem ts_X6_readFranchisee_b137 (E : zE) (q : Nat) (g : zH) (s : twS) : f_X6_readFranchisee_b137 E  (tw s q g) = (t_X6_readFranchisee_b137 E  s).map (zem q g) := by
  unfold f_X6_readFranchisee_b137 t_X6_readFranchisee_b137
  rfl
def t_X6_readFranchisee_b0 (E : zE) (s : twS) : Option (Int32 × twS) :=
  (tdL s 1 (15164 : Int32)).bind fun x3 =>
  if x3 = (8 : Int64) then (
    bnd2 (t_X6_fail E (4 : Int32) s) fun x72 s70_ =>
    (zgd .boolean x72).bind fun _ =>
    some (x72, s70_)
  ) else (
    bnd2 (t_X6_advance E s) fun x9 s7_ =>
    if (tSc s7_ 13) = (1 : Int32) then (
      bnd2 (t_X6_statement E s7_) fun x16 s14_ =>
      if x16 = (-1 : Int32) then (
        bnd2 (t_X6_named E (3 : Int32) s14_.2.2.2.2 s14_) fun x23 s21_ =>
        if x23 = (-1 : Int32) then (
          (tdL s21_ 1 (15164 : Int32)).bind fun x27 =>
          (tsL s21_ 1 (((15220 : Int32) + ((16 : Int32) * (x27.toInt32))) + (0 : Int32)) s21_.2.2.2.2).bind fun s33_ =>
          bnd2 (t_X6_advance E s33_) fun x38 s36_ =>
          (tdL s36_ 1 (15163 : Int32)).bind fun x41 =>
          bnd2 (t_X6_readInto E (((15220 : Int32) + ((16 : Int32) * (x27.toInt32))) + (1 : Int32)) (0 : Int32) ((x41.toInt32) - (1 : Int32)) (1 : Int64) s36_) fun x46 s44_ =>
          if x46 = 0 then (
            t_X6_readFranchisee_b137 E s44_
          ) else (
            bnd2 (t_X6_readInto E (((15220 : Int32) + ((16 : Int32) * (x27.toInt32))) + (2 : Int32)) (0 : Int32) (999 : Int32) (1 : Int64) s44_) fun x51 s49_ =>
            if x51 = 0 then (
              t_X6_readFranchisee_b137 E s49_
            ) else (
              (tdL s49_ 1 (15164 : Int32)).bind fun x55 =>
              (tsL s49_ 1 (15164 : Int32) (x55 + (1 : Int64))).bind fun s57_ =>
              bnd2 (t_X6_readEnd E s57_) fun x62 s60_ =>
              (zgd .boolean x62).bind fun _ =>
              some (x62, s60_)
            )
          )
        ) else (
          bnd2 (t_X6_fail E (3 : Int32) s21_) fun x67 s65_ =>
          (zgd .boolean x67).bind fun _ =>
          some (x67, s65_)
        )
      ) else (
        t_X6_readFranchisee_b41 E s14_
      )
    ) else (
      t_X6_readFranchisee_b41 E s7_
    )
  )
theorem ts_X6_readFranchisee_b0 (E : zE) (q : Nat) (g : zH) (s : twS) : f_X6_readFranchisee_b0 E q (tw s q g) = (t_X6_readFranchisee_b0 E  s).map (zem q g) := by
  unfold f_X6_readFranchisee_b0 t_X6_readFranchisee_b0
  refine tb1 (tw_gR_0 _ q g) ?_
  refine tb2 (tw_dL _ q g (by decide) _ ) fun x3 => ?_
  refine tb6 ?_ ?_
  · refine tb1 (tw_cko _ q g) ?_
    refine tb5 (ts_X6_fail E q g  _  _) fun x72 s70_ => ?_
    refine tb2 rfl fun _ => ?_
    rfl
  · refine tb1 (tw_cko _ q g) ?_
    refine tb5 (ts_X6_advance E q g   _) fun x9 s7_ => ?_
    refine tb1 (tw_gI_13 _ q g) ?_
    refine tb6 ?_ ?_
    · refine tb1 (tw_cko _ q g) ?_
      refine tb5 (ts_X6_statement E q g   _) fun x16 s14_ => ?_
      refine tb6 ?_ ?_
      · refine tb1 (tw_gL_16 _ q g) ?_
        refine tb1 (tw_cko _ q g) ?_
        refine tb5 (ts_X6_named E q g  _ _  _) fun x23 s21_ => ?_
        refine tb6 ?_ ?_
        · refine tb1 (tw_gR_0 _ q g) ?_
          refine tb2 (tw_dL _ q g (by decide) _ ) fun x27 => ?_
          refine tb1 (tw_gR_0 _ q g) ?_
          refine tb1 (tw_gL_16 _ q g) ?_
          refine tb4 (tw_sL _ q g (by decide) _ _ ) fun s33_ => ?_
          refine tb1 (tw_cko _ q g) ?_
          refine tb5 (ts_X6_advance E q g   _) fun x38 s36_ => ?_
          refine tb1 (tw_gR_0 _ q g) ?_
          refine tb2 (tw_dL _ q g (by decide) _ ) fun x41 => ?_
          refine tb1 (tw_cko _ q g) ?_
          refine tb5 (ts_X6_readInto E q g  _ _ _ _  _) fun x46 s44_ => ?_
          refine tb6 ?_ ?_
          · exact ts_X6_readFranchisee_b137 E q g   _
          · refine tb1 (tw_cko _ q g) ?_
            refine tb5 (ts_X6_readInto E q g  _ _ _ _  _) fun x51 s49_ => ?_
            refine tb6 ?_ ?_
            · exact ts_X6_readFranchisee_b137 E q g   _
            · refine tb1 (tw_gR_0 _ q g) ?_
              refine tb2 (tw_dL _ q g (by decide) _ ) fun x55 => ?_
              refine tb4 (tw_sL _ q g (by decide) _ _ ) fun s57_ => ?_
              refine tb1 (tw_cko _ q g) ?_
              refine tb5 (ts_X6_readEnd E q g   _) fun x62 s60_ => ?_
              refine tb2 rfl fun _ => ?_
              rfl
        · refine tb1 (tw_cko _ q g) ?_
          refine tb5 (ts_X6_fail E q g  _  _) fun x67 s65_ => ?_
          refine tb2 rfl fun _ => ?_
          rfl
      · exact ts_X6_readFranchisee_b41 E q g   _
    · exact ts_X6_readFranchisee_b41 E q g   _
def t_X6_readFranchisee (E : zE) (s : twS) : Option (Int32 × twS) :=
  t_X6_readFranchisee_b0 E s
theorem ts_X6_readFranchisee (E : zE) (q : Nat) (g : zH) (s : twS) : f_X6_readFranchisee E q (tw s q g) = (t_X6_readFranchisee E  s).map (zem q g) := by
  unfold f_X6_readFranchisee t_X6_readFranchisee
  exact ts_X6_readFranchisee_b0 E q g   _
def t_X6_readName_b66 (E : zE) (p3 : Int32) (s : twS) : Option (Int32 × twS) :=
  some (p3, s)
theorem ts_X6_readName_b66 (E : zE) (q : Nat) (g : zH) (p3 : Int32) (s : twS) : f_X6_readName_b66 E p3 (tw s q g) = (t_X6_readName_b66 E p3 s).map (zem q g) := by
  unfold f_X6_readName_b66 t_X6_readName_b66
  rfl
def t_X6_readName_b55 (E : zE) (p3 : Int32) (s1 : Int32) (s : twS) : Option (Int32 × twS) :=
  bnd2 (t_X6_fail E s1 s) fun x4 s2_ =>
  t_X6_readName_b66 E p3 s2_
theorem ts_X6_readName_b55 (E : zE) (q : Nat) (g : zH) (p3 : Int32) (s1 : Int32) (s : twS) : f_X6_readName_b55 E p3 q s1 (tw s q g) = (t_X6_readName_b55 E p3 s1 s).map (zem q g) := by
  unfold f_X6_readName_b55 t_X6_readName_b55
  refine tb1 (tw_cko _ q g) ?_
  refine tb5 (ts_X6_fail E q g  _  _) fun x4 s2_ => ?_
  exact ts_X6_readName_b66 E q g  _  _
def t_X6_readName_b39 (E : zE) (p2 : Int32) (s0 : Int32) (s : twS) : Option (Int32 × twS) :=
  if s0 = (-1 : Int32) then (
    if p2 = 0 then (
      t_X6_readName_b55 E s0 (1 : Int32) s
    ) else (
      t_X6_readName_b55 E s0 (3 : Int32) s
    )
  ) else (
    bnd2 (t_X6_advance E s) fun x5 s3_ =>
    t_X6_readName_b66 E s0 s3_
  )
theorem ts_X6_readName_b39 (E : zE) (q : Nat) (g : zH) (p2 : Int32) (s0 : Int32) (s : twS) : f_X6_readName_b39 E q p2 s0 (tw s q g) = (t_X6_readName_b39 E p2 s0 s).map (zem q g) := by
  unfold f_X6_readName_b39 t_X6_readName_b39
  refine tb6 ?_ ?_
  · refine tb6 ?_ ?_
    · exact ts_X6_readName_b55 E q g  _ _  _
    · exact ts_X6_readName_b55 E q g  _ _  _
  · refine tb1 (tw_cko _ q g) ?_
    refine tb5 (ts_X6_advance E q g   _) fun x5 s3_ => ?_
    exact ts_X6_readName_b66 E q g  _  _
def t_X6_readName_b21 (E : zE) (p1 : Int32) (s0 : Int32) (s : twS) : Option (Int32 × twS) :=
  if s0 = 0 then (
    t_X6_readName_b39 E s0 (-1 : Int32) s
  ) else (
    bnd2 (t_X6_named E p1 s.2.2.2.2 s) fun x7 s5_ =>
    t_X6_readName_b39 E s0 x7 s5_
  )
theorem ts_X6_readName_b21 (E : zE) (q : Nat) (g : zH) (p1 : Int32) (s0 : Int32) (s : twS) : f_X6_readName_b21 E q p1 s0 (tw s q g) = (t_X6_readName_b21 E p1 s0 s).map (zem q g) := by
  unfold f_X6_readName_b21 t_X6_readName_b21
  refine tb6 ?_ ?_
  · exact ts_X6_readName_b39 E q g  _ _  _
  · refine tb1 (tw_gL_16 _ q g) ?_
    refine tb1 (tw_cko _ q g) ?_
    refine tb5 (ts_X6_named E q g  _ _  _) fun x7 s5_ => ?_
    exact ts_X6_readName_b39 E q g  _ _  _
def t_X6_readName_b20 (E : zE) (p1 : Int32) (s : twS) : Option (Int32 × twS) :=
  t_X6_readName_b21 E p1 (0 : Int32) s
theorem ts_X6_readName_b20 (E : zE) (q : Nat) (g : zH) (p1 : Int32) (s : twS) : f_X6_readName_b20 E q p1 (tw s q g) = (t_X6_readName_b20 E p1 s).map (zem q g) := by
  unfold f_X6_readName_b20 t_X6_readName_b20
  exact ts_X6_readName_b21 E q g  _ _  _
def t_X6_readName_b0 (E : zE) (p1 : Int32) (s : twS) : Option (Int32 × twS) :=
  if (tSc s 13) = (1 : Int32) then (
    bnd2 (t_X6_statement E s) fun x7 s5_ =>
    if x7 = (-1 : Int32) then (
      t_X6_readName_b21 E p1 (1 : Int32) s5_
    ) else (
      t_X6_readName_b20 E p1 s5_
    )
  ) else (
    t_X6_readName_b20 E p1 s
  )
theorem ts_X6_readName_b0 (E : zE) (q : Nat) (g : zH) (p1 : Int32) (s : twS) : f_X6_readName_b0 E q p1 (tw s q g) = (t_X6_readName_b0 E p1 s).map (zem q g) := by
  unfold f_X6_readName_b0 t_X6_readName_b0
  refine tb1 (tw_gI_13 _ q g) ?_
  refine tb6 ?_ ?_
  · refine tb1 (tw_cko _ q g) ?_
    refine tb5 (ts_X6_statement E q g   _) fun x7 s5_ => ?_
    refine tb6 ?_ ?_
    · exact ts_X6_readName_b21 E q g  _ _  _
    · exact ts_X6_readName_b20 E q g  _  _
  · exact ts_X6_readName_b20 E q g  _  _
def t_X6_readName (E : zE) (p1 : Int32) (s : twS) : Option (Int32 × twS) :=
  t_X6_readName_b0 E p1 s
theorem ts_X6_readName (E : zE) (q : Nat) (g : zH) (p1 : Int32) (s : twS) : f_X6_readName E q p1 (tw s q g) = (t_X6_readName E p1 s).map (zem q g) := by
  unfold f_X6_readName t_X6_readName
  exact ts_X6_readName_b0 E q g  _  _
def t_X6_hasOther_b62 (E : zE) (k3 : Int32 → Int32 → Int32 → Int32 → Int32 → Int32 → twS → Option (Int32 × twS)) (p1 : Int32) (p2 : Int32) (p3 : Int32) (p4 : Int32) (p5 : Int32) (p6 : Int32) (s : twS) : Option (Int32 × twS) :=
  k3 p1 p2 p3 p4 p5 (p6 + 1) s
theorem ts_X6_hasOther_b62 (E : zE) (q : Nat) (g : zH) {K3 : Nat → Int32 → Int32 → Int32 → Int32 → Int32 → Int32 → zH → Option (Int32 × zH)} {k3 : Int32 → Int32 → Int32 → Int32 → Int32 → Int32 → twS → Option (Int32 × twS)} (hk3 : ∀ (p1 : Int32) (p2 : Int32) (p3 : Int32) (p4 : Int32) (p5 : Int32) (p6 : Int32) (s : twS), K3 q p1 p2 p3 p4 p5 p6 (tw s q g) = (k3 p1 p2 p3 p4 p5 p6 s).map (zem q g)) (p1 : Int32) (p2 : Int32) (p3 : Int32) (p4 : Int32) (p5 : Int32) (p6 : Int32) (s : twS) : f_X6_hasOther_b62 E K3 q p1 p2 p3 p4 p5 p6 (tw s q g) = (t_X6_hasOther_b62 E k3 p1 p2 p3 p4 p5 p6 s).map (zem q g) := by
  unfold f_X6_hasOther_b62 t_X6_hasOther_b62
  exact hk3 _ _ _ _ _ _  _
def t_X6_hasOther_l3 (E : zE) : Nat → Int32 → Int32 → Int32 → Int32 → Int32 → Int32 → twS → Option (Int32 × twS)
  | 0, _, _, _, _, _, _, _ => none
  | n + 1, p1, p2, p3, p4, p5, p6, s =>
    if (900 : Int32) ≤ p6 then (
      some ((0 : Int32), s)
    ) else (
      bnd2 (t_X6_isWithin E p6 p2 p3 p4 p5 s) fun x4 s2_ =>
      if x4 = 0 then (
        t_X6_hasOther_b62 E (t_X6_hasOther_l3 E n) p1 p2 p3 p4 p5 p6 s2_
      ) else (
        (tdL s2_ 1 ((15412 : Int32) + p6)).bind fun x8 =>
        if x8 = (-1 : Int64) then (
          t_X6_hasOther_b62 E (t_X6_hasOther_l3 E n) p1 p2 p3 p4 p5 p6 s2_
        ) else (
          (tdL s2_ 1 ((15412 : Int32) + p6)).bind fun x13 =>
          if x13 = (p1.toInt64) then (
            t_X6_hasOther_b62 E (t_X6_hasOther_l3 E n) p1 p2 p3 p4 p5 p6 s2_
          ) else (
            some ((1 : Int32), s2_)
          )
        )
      )
    )
theorem ts_X6_hasOther_l3 (E : zE) (q : Nat) (g : zH) : ∀ (n : Nat) (p1 : Int32) (p2 : Int32) (p3 : Int32) (p4 : Int32) (p5 : Int32) (p6 : Int32) (s : twS), f_X6_hasOther_l3 E n q p1 p2 p3 p4 p5 p6 (tw s q g) = (t_X6_hasOther_l3 E n p1 p2 p3 p4 p5 p6 s).map (zem q g) := by
  intro n
  induction n with
  | zero => intros; rfl
  | succ n ih =>
    intro p1 p2 p3 p4 p5 p6 s
    unfold f_X6_hasOther_l3 t_X6_hasOther_l3
    refine tb6 ?_ ?_
    · rfl
    · refine tb5 (ts_X6_isWithin E q g  _ _ _ _ _  _) fun x4 s2_ => ?_
      refine tb6 ?_ ?_
      · exact ts_X6_hasOther_b62 E q g ih  _ _ _ _ _ _  _
      · refine tb1 (tw_gR_0 _ q g) ?_
        refine tb2 (tw_dL _ q g (by decide) _ ) fun x8 => ?_
        refine tb6 ?_ ?_
        · exact ts_X6_hasOther_b62 E q g ih  _ _ _ _ _ _  _
        · refine tb1 (tw_gR_0 _ q g) ?_
          refine tb2 (tw_dL _ q g (by decide) _ ) fun x13 => ?_
          refine tb6 ?_ ?_
          · exact ts_X6_hasOther_b62 E q g ih  _ _ _ _ _ _  _
          · rfl
def t_X6_hasOther_b0 (E : zE) (p1 : Int32) (p2 : Int32) (p3 : Int32) (p4 : Int32) (p5 : Int32) (s : twS) : Option (Int32 × twS) :=
  t_X6_hasOther_l3 E E.1 p1 p2 p3 p4 p5 (0 : Int32) s
theorem ts_X6_hasOther_b0 (E : zE) (q : Nat) (g : zH) (p1 : Int32) (p2 : Int32) (p3 : Int32) (p4 : Int32) (p5 : Int32) (s : twS) : f_X6_hasOther_b0 E q p1 p2 p3 p4 p5 (tw s q g) = (t_X6_hasOther_b0 E p1 p2 p3 p4 p5 s).map (zem q g) := by
  unfold f_X6_hasOther_b0 t_X6_hasOther_b0
  exact ts_X6_hasOther_l3 E q g E.1 _ _ _ _ _ _  _
def t_X6_hasOther (E : zE) (p1 : Int32) (p2 : Int32) (p3 : Int32) (p4 : Int32) (p5 : Int32) (s : twS) : Option (Int32 × twS) :=
  t_X6_hasOther_b0 E p1 p2 p3 p4 p5 s
theorem ts_X6_hasOther (E : zE) (q : Nat) (g : zH) (p1 : Int32) (p2 : Int32) (p3 : Int32) (p4 : Int32) (p5 : Int32) (s : twS) : f_X6_hasOther E q p1 p2 p3 p4 p5 (tw s q g) = (t_X6_hasOther E p1 p2 p3 p4 p5 s).map (zem q g) := by
  unfold f_X6_hasOther t_X6_hasOther
  exact ts_X6_hasOther_b0 E q g  _ _ _ _ _  _
def t_X6_readArea_b25 (E : zE) (s : twS) : Option (Int32 × twS) :=
  some ((0 : Int32), s)
theorem ts_X6_readArea_b25 (E : zE) (q : Nat) (g : zH) (s : twS) : f_X6_readArea_b25 E  (tw s q g) = (t_X6_readArea_b25 E  s).map (zem q g) := by
  unfold f_X6_readArea_b25 t_X6_readArea_b25
  rfl
def t_X6_readArea_b157 (E : zE) (k120 : Int32 → Int32 → Int32 → Int32 → Int32 → twS → Option (Int32 × twS)) (p1 : Int32) (p2 : Int32) (p3 : Int32) (p4 : Int32) (p6 : Int32) (s : twS) : Option (Int32 × twS) :=
  k120 p1 p2 p3 p4 (p6 + 1) s
theorem ts_X6_readArea_b157 (E : zE) (q : Nat) (g : zH) {K120 : Nat → Int32 → Int32 → Int32 → Int32 → Int32 → zH → Option (Int32 × zH)} {k120 : Int32 → Int32 → Int32 → Int32 → Int32 → twS → Option (Int32 × twS)} (hk120 : ∀ (p1 : Int32) (p2 : Int32) (p3 : Int32) (p4 : Int32) (p6 : Int32) (s : twS), K120 q p1 p2 p3 p4 p6 (tw s q g) = (k120 p1 p2 p3 p4 p6 s).map (zem q g)) (p1 : Int32) (p2 : Int32) (p3 : Int32) (p4 : Int32) (p6 : Int32) (s : twS) : f_X6_readArea_b157 E K120 q p1 p2 p3 p4 p6 (tw s q g) = (t_X6_readArea_b157 E k120 p1 p2 p3 p4 p6 s).map (zem q g) := by
  unfold f_X6_readArea_b157 t_X6_readArea_b157
  exact hk120 _ _ _ _ _  _
def t_X6_readArea_l120 (E : zE) : Nat → Int32 → Int32 → Int32 → Int32 → Int32 → twS → Option (Int32 × twS)
  | 0, _, _, _, _, _, _ => none
  | n + 1, p1, p2, p3, p4, p6, s =>
    if (900 : Int32) ≤ p6 then (
      bnd2 (t_X6_readEnd E s) fun x5 s3_ =>
      (zgd .boolean x5).bind fun _ =>
      some (x5, s3_)
    ) else (
      bnd2 (t_X6_isWithin E p6 p2 p3 p4 (tSc s 15) s) fun x11 s9_ =>
      if x11 = 0 then (
        t_X6_readArea_b157 E (t_X6_readArea_l120 E n) p1 p2 p3 p4 p6 s9_
      ) else (
        (tsL s9_ 1 ((15412 : Int32) + p6) (p1.toInt64)).bind fun s15_ =>
        t_X6_readArea_b157 E (t_X6_readArea_l120 E n) p1 p2 p3 p4 p6 s15_
      )
    )
theorem ts_X6_readArea_l120 (E : zE) (q : Nat) (g : zH) : ∀ (n : Nat) (p1 : Int32) (p2 : Int32) (p3 : Int32) (p4 : Int32) (p6 : Int32) (s : twS), f_X6_readArea_l120 E n q p1 p2 p3 p4 p6 (tw s q g) = (t_X6_readArea_l120 E n p1 p2 p3 p4 p6 s).map (zem q g) := by
  intro n
  induction n with
  | zero => intros; rfl
  | succ n ih =>
    intro p1 p2 p3 p4 p6 s
    unfold f_X6_readArea_l120 t_X6_readArea_l120
    refine tb6 ?_ ?_
    · refine tb1 (tw_cko _ q g) ?_
      refine tb5 (ts_X6_readEnd E q g   _) fun x5 s3_ => ?_
      refine tb2 rfl fun _ => ?_
      rfl
    · refine tb1 (tw_gI_15 _ q g) ?_
      refine tb5 (ts_X6_isWithin E q g  _ _ _ _ _  _) fun x11 s9_ => ?_
      refine tb6 ?_ ?_
      · exact ts_X6_readArea_b157 E q g ih  _ _ _ _ _  _
      · refine tb1 (tw_gR_0 _ q g) ?_
        refine tb4 (tw_sL _ q g (by decide) _ _ ) fun s15_ => ?_
        exact ts_X6_readArea_b157 E q g ih  _ _ _ _ _  _
def t_X6_readArea_b0 (E : zE) (s : twS) : Option (Int32 × twS) :=
  bnd2 (t_X6_advance E s) fun x4 s2_ =>
  bnd2 (t_X6_readName E (3 : Int32) s2_) fun x8 s6_ =>
  if x8 = (-1 : Int32) then (
    t_X6_readArea_b25 E s6_
  ) else (
    bnd2 (t_X6_readNumber E (0 : Int32) (29 : Int32) s6_) fun x13 s11_ =>
    if x13 = 0 then (
      t_X6_readArea_b25 E s11_
    ) else (
      bnd2 (t_X6_readNumber E (0 : Int32) (29 : Int32) s11_) fun x20 s18_ =>
      if x20 = 0 then (
        some ((0 : Int32), s18_)
      ) else (
        bnd2 (t_X6_readNumber E ((tSc s11_ 15) + (1 : Int32)) (30 : Int32) s18_) fun x27 s25_ =>
        if x27 = 0 then (
          some ((0 : Int32), s25_)
        ) else (
          bnd2 (t_X6_readNumber E ((tSc s18_ 15) + (1 : Int32)) (30 : Int32) s25_) fun x36 s34_ =>
          if x36 = 0 then (
            some ((0 : Int32), s34_)
          ) else (
            bnd2 (t_X6_hasOther E x8 (tSc s11_ 15) (tSc s18_ 15) (tSc s25_ 15) (tSc s34_ 15) s34_) fun x43 s41_ =>
            if x43 = 0 then (
              t_X6_readArea_l120 E E.1 x8 (tSc s11_ 15) (tSc s18_ 15) (tSc s25_ 15) (0 : Int32) s41_
            ) else (
              bnd2 (t_X6_fail E (5 : Int32) (uSc s41_ 14 (tSc s25_ 14))) fun x50 s48_ =>
              (zgd .boolean x50).bind fun _ =>
              some (x50, s48_)
            )
          )
        )
      )
    )
  )
theorem ts_X6_readArea_b0 (E : zE) (q : Nat) (g : zH) (s : twS) : f_X6_readArea_b0 E q (tw s q g) = (t_X6_readArea_b0 E  s).map (zem q g) := by
  unfold f_X6_readArea_b0 t_X6_readArea_b0
  refine tb1 (tw_cko _ q g) ?_
  refine tb5 (ts_X6_advance E q g   _) fun x4 s2_ => ?_
  refine tb1 (tw_cko _ q g) ?_
  refine tb5 (ts_X6_readName E q g  _  _) fun x8 s6_ => ?_
  refine tb6 ?_ ?_
  · exact ts_X6_readArea_b25 E q g   _
  · refine tb1 (tw_cko _ q g) ?_
    refine tb5 (ts_X6_readNumber E q g  _ _  _) fun x13 s11_ => ?_
    refine tb6 ?_ ?_
    · exact ts_X6_readArea_b25 E q g   _
    · refine tb1 (tw_gI_15 _ q g) ?_
      refine tb1 (tw_cko _ q g) ?_
      refine tb5 (ts_X6_readNumber E q g  _ _  _) fun x20 s18_ => ?_
      refine tb6 ?_ ?_
      · rfl
      · refine tb1 (tw_gI_15 _ q g) ?_
        refine tb1 (tw_cko _ q g) ?_
        refine tb5 (ts_X6_readNumber E q g  _ _  _) fun x27 s25_ => ?_
        refine tb6 ?_ ?_
        · rfl
        · refine tb1 (tw_gI_15 _ q g) ?_
          refine tb1 (tw_gI_14 _ q g) ?_
          refine tb1 (tw_cko _ q g) ?_
          refine tb5 (ts_X6_readNumber E q g  _ _  _) fun x36 s34_ => ?_
          refine tb6 ?_ ?_
          · rfl
          · refine tb1 (tw_gI_15 _ q g) ?_
            refine tb1 (tw_cko _ q g) ?_
            refine tb5 (ts_X6_hasOther E q g  _ _ _ _ _  _) fun x43 s41_ => ?_
            refine tb6 ?_ ?_
            · exact ts_X6_readArea_l120 E q g E.1 _ _ _ _ _  _
            · refine tb1 (tw_pI_14 _ q g _) ?_
              refine tb1 (tw_cko _ q g) ?_
              refine tb5 (ts_X6_fail E q g  _  _) fun x50 s48_ => ?_
              refine tb2 rfl fun _ => ?_
              rfl
def t_X6_readArea (E : zE) (s : twS) : Option (Int32 × twS) :=
  t_X6_readArea_b0 E s
theorem ts_X6_readArea (E : zE) (q : Nat) (g : zH) (s : twS) : f_X6_readArea E q (tw s q g) = (t_X6_readArea E  s).map (zem q g) := by
  unfold f_X6_readArea t_X6_readArea
  exact ts_X6_readArea_b0 E q g   _
def t_X6_hasOutletRead_b58 (E : zE) (k2 : Int32 → Int32 → Int32 → twS → Option (Int32 × twS)) (p1 : Int32) (p2 : Int32) (p3 : Int32) (s : twS) : Option (Int32 × twS) :=
  k2 p1 p2 (p3 + 1) s
theorem ts_X6_hasOutletRead_b58 (E : zE) (q : Nat) (g : zH) {K2 : Nat → Int32 → Int32 → Int32 → zH → Option (Int32 × zH)} {k2 : Int32 → Int32 → Int32 → twS → Option (Int32 × twS)} (hk2 : ∀ (p1 : Int32) (p2 : Int32) (p3 : Int32) (s : twS), K2 q p1 p2 p3 (tw s q g) = (k2 p1 p2 p3 s).map (zem q g)) (p1 : Int32) (p2 : Int32) (p3 : Int32) (s : twS) : f_X6_hasOutletRead_b58 E K2 q p1 p2 p3 (tw s q g) = (t_X6_hasOutletRead_b58 E k2 p1 p2 p3 s).map (zem q g) := by
  unfold f_X6_hasOutletRead_b58 t_X6_hasOutletRead_b58
  exact hk2 _ _ _  _
def t_X6_hasOutletRead_l2 (E : zE) : Nat → Int32 → Int32 → Int32 → twS → Option (Int32 × twS)
  | 0, _, _, _, _ => none
  | n + 1, p1, p2, p3, s =>
    (tdL s 1 (15165 : Int32)).bind fun x3 =>
    if x3 ≤ (p3.toInt64) then (
      some ((0 : Int32), s)
    ) else (
      (tdL s 1 (((15348 : Int32) + ((4 : Int32) * p3)) + (1 : Int32))).bind fun x8 =>
      if x8 = (p1.toInt64) then (
        (tdL s 1 (((15348 : Int32) + ((4 : Int32) * p3)) + (2 : Int32))).bind fun x13 =>
        if x13 = (p2.toInt64) then (
          some ((1 : Int32), s)
        ) else (
          t_X6_hasOutletRead_b58 E (t_X6_hasOutletRead_l2 E n) p1 p2 p3 s
        )
      ) else (
        t_X6_hasOutletRead_b58 E (t_X6_hasOutletRead_l2 E n) p1 p2 p3 s
      )
    )
theorem ts_X6_hasOutletRead_l2 (E : zE) (q : Nat) (g : zH) : ∀ (n : Nat) (p1 : Int32) (p2 : Int32) (p3 : Int32) (s : twS), f_X6_hasOutletRead_l2 E n q p1 p2 p3 (tw s q g) = (t_X6_hasOutletRead_l2 E n p1 p2 p3 s).map (zem q g) := by
  intro n
  induction n with
  | zero => intros; rfl
  | succ n ih =>
    intro p1 p2 p3 s
    unfold f_X6_hasOutletRead_l2 t_X6_hasOutletRead_l2
    refine tb1 (tw_gR_0 _ q g) ?_
    refine tb2 (tw_dL _ q g (by decide) _ ) fun x3 => ?_
    refine tb6 ?_ ?_
    · rfl
    · refine tb1 (tw_gR_0 _ q g) ?_
      refine tb2 (tw_dL _ q g (by decide) _ ) fun x8 => ?_
      refine tb6 ?_ ?_
      · refine tb1 (tw_gR_0 _ q g) ?_
        refine tb2 (tw_dL _ q g (by decide) _ ) fun x13 => ?_
        refine tb6 ?_ ?_
        · rfl
        · exact ts_X6_hasOutletRead_b58 E q g ih  _ _ _  _
      · exact ts_X6_hasOutletRead_b58 E q g ih  _ _ _  _
def t_X6_hasOutletRead_b0 (E : zE) (p1 : Int32) (p2 : Int32) (s : twS) : Option (Int32 × twS) :=
  t_X6_hasOutletRead_l2 E E.1 p1 p2 (0 : Int32) s
theorem ts_X6_hasOutletRead_b0 (E : zE) (q : Nat) (g : zH) (p1 : Int32) (p2 : Int32) (s : twS) : f_X6_hasOutletRead_b0 E q p1 p2 (tw s q g) = (t_X6_hasOutletRead_b0 E p1 p2 s).map (zem q g) := by
  unfold f_X6_hasOutletRead_b0 t_X6_hasOutletRead_b0
  exact ts_X6_hasOutletRead_l2 E q g E.1 _ _ _  _
def t_X6_hasOutletRead (E : zE) (p1 : Int32) (p2 : Int32) (s : twS) : Option (Int32 × twS) :=
  t_X6_hasOutletRead_b0 E p1 p2 s
theorem ts_X6_hasOutletRead (E : zE) (q : Nat) (g : zH) (p1 : Int32) (p2 : Int32) (s : twS) : f_X6_hasOutletRead E q p1 p2 (tw s q g) = (t_X6_hasOutletRead E p1 p2 s).map (zem q g) := by
  unfold f_X6_hasOutletRead t_X6_hasOutletRead
  exact ts_X6_hasOutletRead_b0 E q g  _ _  _
def t_X6_readOutlet_b46 (E : zE) (s : twS) : Option (Int32 × twS) :=
  some ((0 : Int32), s)
theorem ts_X6_readOutlet_b46 (E : zE) (q : Nat) (g : zH) (s : twS) : f_X6_readOutlet_b46 E  (tw s q g) = (t_X6_readOutlet_b46 E  s).map (zem q g) := by
  unfold f_X6_readOutlet_b46 t_X6_readOutlet_b46
  rfl
def t_X6_readOutlet_b106 (E : zE) (p3 : Int32) (s : twS) : Option (Int32 × twS) :=
  bnd2 (t_X6_fail E (5 : Int32) (uSc s 14 p3)) fun x6 s4_ =>
  (zgd .boolean x6).bind fun _ =>
  some (x6, s4_)
theorem ts_X6_readOutlet_b106 (E : zE) (q : Nat) (g : zH) (p3 : Int32) (s : twS) : f_X6_readOutlet_b106 E q p3 (tw s q g) = (t_X6_readOutlet_b106 E p3 s).map (zem q g) := by
  unfold f_X6_readOutlet_b106 t_X6_readOutlet_b106
  refine tb1 (tw_pI_14 _ q g _) ?_
  refine tb1 (tw_cko _ q g) ?_
  refine tb5 (ts_X6_fail E q g  _  _) fun x6 s4_ => ?_
  refine tb2 rfl fun _ => ?_
  rfl
def t_X6_readOutlet_b0 (E : zE) (s : twS) : Option (Int32 × twS) :=
  (tdL s 1 (15165 : Int32)).bind fun x3 =>
  if x3 = (16 : Int64) then (
    bnd2 (t_X6_fail E (4 : Int32) s) fun x57 s55_ =>
    (zgd .boolean x57).bind fun _ =>
    some (x57, s55_)
  ) else (
    bnd2 (t_X6_advance E s) fun x9 s7_ =>
    bnd2 (t_X6_readName E (3 : Int32) s7_) fun x13 s11_ =>
    if x13 = (-1 : Int32) then (
      t_X6_readOutlet_b46 E s11_
    ) else (
      bnd2 (t_X6_readNumber E (0 : Int32) (29 : Int32) s11_) fun x18 s16_ =>
      if x18 = 0 then (
        t_X6_readOutlet_b46 E s16_
      ) else (
        bnd2 (t_X6_readNumber E (0 : Int32) (29 : Int32) s16_) fun x27 s25_ =>
        if x27 = 0 then (
          some ((0 : Int32), s25_)
        ) else (
          (tdL s25_ 1 (((15412 : Int32) + ((30 : Int32) * (tSc s25_ 15))) + (tSc s16_ 15))).bind fun x33 =>
          if x33 = (x13.toInt64) then (
            bnd2 (t_X6_hasOutletRead E (tSc s16_ 15) (tSc s25_ 15) s25_) fun x41 s39_ =>
            if x41 = 0 then (
              bnd2 (t_X6_putOutlet E (3 : Int32) x13 (tSc s16_ 15) (tSc s39_ 15) s39_) fun x48 s46_ =>
              bnd2 (t_X6_readEnd E s46_) fun x52 s50_ =>
              (zgd .boolean x52).bind fun _ =>
              some (x52, s50_)
            ) else (
              t_X6_readOutlet_b106 E (tSc s16_ 14) s39_
            )
          ) else (
            t_X6_readOutlet_b106 E (tSc s16_ 14) s25_
          )
        )
      )
    )
  )
theorem ts_X6_readOutlet_b0 (E : zE) (q : Nat) (g : zH) (s : twS) : f_X6_readOutlet_b0 E q (tw s q g) = (t_X6_readOutlet_b0 E  s).map (zem q g) := by
  unfold f_X6_readOutlet_b0 t_X6_readOutlet_b0
  refine tb1 (tw_gR_0 _ q g) ?_
  refine tb2 (tw_dL _ q g (by decide) _ ) fun x3 => ?_
  refine tb6 ?_ ?_
  · refine tb1 (tw_cko _ q g) ?_
    refine tb5 (ts_X6_fail E q g  _  _) fun x57 s55_ => ?_
    refine tb2 rfl fun _ => ?_
    rfl
  · refine tb1 (tw_cko _ q g) ?_
    refine tb5 (ts_X6_advance E q g   _) fun x9 s7_ => ?_
    refine tb1 (tw_cko _ q g) ?_
    refine tb5 (ts_X6_readName E q g  _  _) fun x13 s11_ => ?_
    refine tb6 ?_ ?_
    · exact ts_X6_readOutlet_b46 E q g   _
    · refine tb1 (tw_cko _ q g) ?_
      refine tb5 (ts_X6_readNumber E q g  _ _  _) fun x18 s16_ => ?_
      refine tb6 ?_ ?_
      · exact ts_X6_readOutlet_b46 E q g   _
      · refine tb1 (tw_gI_15 _ q g) ?_
        refine tb1 (tw_gI_14 _ q g) ?_
        refine tb1 (tw_cko _ q g) ?_
        refine tb5 (ts_X6_readNumber E q g  _ _  _) fun x27 s25_ => ?_
        refine tb6 ?_ ?_
        · rfl
        · refine tb1 (tw_gR_0 _ q g) ?_
          refine tb1 (tw_gI_15 _ q g) ?_
          refine tb2 (tw_dL _ q g (by decide) _ ) fun x33 => ?_
          refine tb6 ?_ ?_
          · refine tb1 (tw_gI_15 _ q g) ?_
            refine tb1 (tw_cko _ q g) ?_
            refine tb5 (ts_X6_hasOutletRead E q g  _ _  _) fun x41 s39_ => ?_
            refine tb6 ?_ ?_
            · refine tb1 (tw_gI_15 _ q g) ?_
              refine tb1 (tw_cko _ q g) ?_
              refine tb5 (ts_X6_putOutlet E q g  _ _ _ _  _) fun x48 s46_ => ?_
              refine tb1 (tw_cko _ q g) ?_
              refine tb5 (ts_X6_readEnd E q g   _) fun x52 s50_ => ?_
              refine tb2 rfl fun _ => ?_
              rfl
            · exact ts_X6_readOutlet_b106 E q g  _  _
          · exact ts_X6_readOutlet_b106 E q g  _  _
def t_X6_readOutlet (E : zE) (s : twS) : Option (Int32 × twS) :=
  t_X6_readOutlet_b0 E s
theorem ts_X6_readOutlet (E : zE) (q : Nat) (g : zH) (s : twS) : f_X6_readOutlet E q (tw s q g) = (t_X6_readOutlet E  s).map (zem q g) := by
  unfold f_X6_readOutlet t_X6_readOutlet
  exact ts_X6_readOutlet_b0 E q g   _
def t_X6_readSetting_b31 (E : zE) (s0 : Int32) (s : twS) : Option (Int32 × twS) :=
  (zgd .boolean s0).bind fun _ =>
  some (s0, s)
theorem ts_X6_readSetting_b31 (E : zE) (q : Nat) (g : zH) (s0 : Int32) (s : twS) : f_X6_readSetting_b31 E s0 (tw s q g) = (t_X6_readSetting_b31 E s0 s).map (zem q g) := by
  unfold f_X6_readSetting_b31 t_X6_readSetting_b31
  refine tb2 rfl fun _ => ?_
  rfl
def t_X6_readSetting_b30 (E : zE) (s : twS) : Option (Int32 × twS) :=
  t_X6_readSetting_b31 E (0 : Int32) s
theorem ts_X6_readSetting_b30 (E : zE) (q : Nat) (g : zH) (s : twS) : f_X6_readSetting_b30 E  (tw s q g) = (t_X6_readSetting_b30 E  s).map (zem q g) := by
  unfold f_X6_readSetting_b30 t_X6_readSetting_b30
  exact ts_X6_readSetting_b31 E q g  _  _
def t_X6_readSetting_b0 (E : zE) (p1 : Int32) (p2 : Int32) (p3 : Int64) (s : twS) : Option (Int32 × twS) :=
  bnd2 (t_X6_advance E s) fun x4 s2_ =>
  bnd2 (t_X6_readInto E ((15162 : Int32) + p1) (0 : Int32) p2 p3 s2_) fun x8 s6_ =>
  if x8 = 0 then (
    t_X6_readSetting_b30 E s6_
  ) else (
    bnd2 (t_X6_readEnd E s6_) fun x13 s11_ =>
    if x13 = 0 then (
      t_X6_readSetting_b30 E s11_
    ) else (
      t_X6_readSetting_b31 E (1 : Int32) s11_
    )
  )
theorem ts_X6_readSetting_b0 (E : zE) (q : Nat) (g : zH) (p1 : Int32) (p2 : Int32) (p3 : Int64) (s : twS) : f_X6_readSetting_b0 E q p1 p2 p3 (tw s q g) = (t_X6_readSetting_b0 E p1 p2 p3 s).map (zem q g) := by
  unfold f_X6_readSetting_b0 t_X6_readSetting_b0
  refine tb1 (tw_cko _ q g) ?_
  refine tb5 (ts_X6_advance E q g   _) fun x4 s2_ => ?_
  refine tb1 (tw_cko _ q g) ?_
  refine tb5 (ts_X6_readInto E q g  _ _ _ _  _) fun x8 s6_ => ?_
  refine tb6 ?_ ?_
  · exact ts_X6_readSetting_b30 E q g   _
  · refine tb1 (tw_cko _ q g) ?_
    refine tb5 (ts_X6_readEnd E q g   _) fun x13 s11_ => ?_
    refine tb6 ?_ ?_
    · exact ts_X6_readSetting_b30 E q g   _
    · exact ts_X6_readSetting_b31 E q g  _  _
def t_X6_readSetting (E : zE) (p1 : Int32) (p2 : Int32) (p3 : Int64) (s : twS) : Option (Int32 × twS) :=
  t_X6_readSetting_b0 E p1 p2 p3 s
theorem ts_X6_readSetting (E : zE) (q : Nat) (g : zH) (p1 : Int32) (p2 : Int32) (p3 : Int64) (s : twS) : f_X6_readSetting E q p1 p2 p3 (tw s q g) = (t_X6_readSetting E p1 p2 p3 s).map (zem q g) := by
  unfold f_X6_readSetting t_X6_readSetting
  exact ts_X6_readSetting_b0 E q g  _ _ _  _
def t_X6_readStatement_b128 (E : zE) (s0 : Int32) (s : twS) : Option (Int32 × twS) :=
  (zgd .boolean s0).bind fun _ =>
  some (s0, s)
theorem ts_X6_readStatement_b128 (E : zE) (q : Nat) (g : zH) (s0 : Int32) (s : twS) : f_X6_readStatement_b128 E s0 (tw s q g) = (t_X6_readStatement_b128 E s0 s).map (zem q g) := by
  unfold f_X6_readStatement_b128 t_X6_readStatement_b128
  refine tb2 rfl fun _ => ?_
  rfl
def t_X6_readStatement_b127 (E : zE) (s : twS) : Option (Int32 × twS) :=
  t_X6_readStatement_b128 E (0 : Int32) s
theorem ts_X6_readStatement_b127 (E : zE) (q : Nat) (g : zH) (s : twS) : f_X6_readStatement_b127 E  (tw s q g) = (t_X6_readStatement_b127 E  s).map (zem q g) := by
  unfold f_X6_readStatement_b127 t_X6_readStatement_b127
  exact ts_X6_readStatement_b128 E q g  _  _
def t_X6_readStatement_b0 (E : zE) (s : twS) : Option (Int32 × twS) :=
  bnd2 (t_X6_statement E s) fun x4 s2_ =>
  if x4 = 0 then (
    bnd2 (t_X6_readPlan E s2_) fun x9 s7_ =>
    (zgd .boolean x9).bind fun _ =>
    some (x9, s7_)
  ) else (
    if x4 = 1 then (
      bnd2 (t_X6_readFranchisee E s2_) fun x15 s13_ =>
      (zgd .boolean x15).bind fun _ =>
      some (x15, s13_)
    ) else (
      if x4 = 2 then (
        bnd2 (t_X6_readArea E s2_) fun x21 s19_ =>
        (zgd .boolean x21).bind fun _ =>
        some (x21, s19_)
      ) else (
        if x4 = 3 then (
          bnd2 (t_X6_readOutlet E s2_) fun x27 s25_ =>
          (zgd .boolean x27).bind fun _ =>
          some (x27, s25_)
        ) else (
          if x4 = 4 then (
            bnd2 (t_X6_advance E s2_) fun x33 s31_ =>
            bnd2 (t_X6_readInto E (15166 : Int32) (0 : Int32) (5000 : Int32) (1 : Int64) s31_) fun x37 s35_ =>
            if x37 = 0 then (
              t_X6_readStatement_b127 E s35_
            ) else (
              bnd2 (t_X6_readInto E (15167 : Int32) (0 : Int32) (9999 : Int32) (100 : Int64) s35_) fun x42 s40_ =>
              if x42 = 0 then (
                t_X6_readStatement_b127 E s40_
              ) else (
                bnd2 (t_X6_readEnd E s40_) fun x47 s45_ =>
                if x47 = 0 then (
                  t_X6_readStatement_b127 E s45_
                ) else (
                  t_X6_readStatement_b128 E (1 : Int32) s45_
                )
              )
            )
          ) else (
            if x4 = 5 then (
              bnd2 (t_X6_readSetting E (6 : Int32) (500 : Int32) (1 : Int64) s2_) fun x53 s51_ =>
              (zgd .boolean x53).bind fun _ =>
              some (x53, s51_)
            ) else (
              if x4 = 6 then (
                bnd2 (t_X6_readSetting E (7 : Int32) (2000 : Int32) (1 : Int64) s2_) fun x59 s57_ =>
                (zgd .boolean x59).bind fun _ =>
                some (x59, s57_)
              ) else (
                if x4 = 7 then (
                  bnd2 (t_X6_readSetting E (8 : Int32) (9999 : Int32) (100 : Int64) s2_) fun x65 s63_ =>
                  (zgd .boolean x65).bind fun _ =>
                  some (x65, s63_)
                ) else (
                  if x4 = 8 then (
                    bnd2 (t_X6_readSetting E (9 : Int32) (12 : Int32) (1 : Int64) s2_) fun x71 s69_ =>
                    (zgd .boolean x71).bind fun _ =>
                    some (x71, s69_)
                  ) else (
                    if x4 = 9 then (
                      bnd2 (t_X6_readSetting E (10 : Int32) (999 : Int32) (1 : Int64) s2_) fun x77 s75_ =>
                      (zgd .boolean x77).bind fun _ =>
                      some (x77, s75_)
                    ) else (
                      bnd2 (t_X6_fail E (1 : Int32) s2_) fun x82 s80_ =>
                      (zgd .boolean x82).bind fun _ =>
                      some (x82, s80_)
                    )
                  )
                )
              )
            )
          )
        )
      )
    )
  )
theorem ts_X6_readStatement_b0 (E : zE) (q : Nat) (g : zH) (s : twS) : f_X6_readStatement_b0 E q (tw s q g) = (t_X6_readStatement_b0 E  s).map (zem q g) := by
  unfold f_X6_readStatement_b0 t_X6_readStatement_b0
  refine tb1 (tw_cko _ q g) ?_
  refine tb5 (ts_X6_statement E q g   _) fun x4 s2_ => ?_
  refine tb6 ?_ ?_
  · refine tb1 (tw_cko _ q g) ?_
    refine tb5 (ts_X6_readPlan E q g   _) fun x9 s7_ => ?_
    refine tb2 rfl fun _ => ?_
    rfl
  · refine tb6 ?_ ?_
    · refine tb1 (tw_cko _ q g) ?_
      refine tb5 (ts_X6_readFranchisee E q g   _) fun x15 s13_ => ?_
      refine tb2 rfl fun _ => ?_
      rfl
    · refine tb6 ?_ ?_
      · refine tb1 (tw_cko _ q g) ?_
        refine tb5 (ts_X6_readArea E q g   _) fun x21 s19_ => ?_
        refine tb2 rfl fun _ => ?_
        rfl
      · refine tb6 ?_ ?_
        · refine tb1 (tw_cko _ q g) ?_
          refine tb5 (ts_X6_readOutlet E q g   _) fun x27 s25_ => ?_
          refine tb2 rfl fun _ => ?_
          rfl
        · refine tb6 ?_ ?_
          · refine tb1 (tw_cko _ q g) ?_
            refine tb5 (ts_X6_advance E q g   _) fun x33 s31_ => ?_
            refine tb1 (tw_cko _ q g) ?_
            refine tb5 (ts_X6_readInto E q g  _ _ _ _  _) fun x37 s35_ => ?_
            refine tb6 ?_ ?_
            · exact ts_X6_readStatement_b127 E q g   _
            · refine tb1 (tw_cko _ q g) ?_
              refine tb5 (ts_X6_readInto E q g  _ _ _ _  _) fun x42 s40_ => ?_
              refine tb6 ?_ ?_
              · exact ts_X6_readStatement_b127 E q g   _
              · refine tb1 (tw_cko _ q g) ?_
                refine tb5 (ts_X6_readEnd E q g   _) fun x47 s45_ => ?_
                refine tb6 ?_ ?_
                · exact ts_X6_readStatement_b127 E q g   _
                · exact ts_X6_readStatement_b128 E q g  _  _
          · refine tb6 ?_ ?_
            · refine tb1 (tw_cko _ q g) ?_
              refine tb5 (ts_X6_readSetting E q g  _ _ _  _) fun x53 s51_ => ?_
              refine tb2 rfl fun _ => ?_
              rfl
            · refine tb6 ?_ ?_
              · refine tb1 (tw_cko _ q g) ?_
                refine tb5 (ts_X6_readSetting E q g  _ _ _  _) fun x59 s57_ => ?_
                refine tb2 rfl fun _ => ?_
                rfl
              · refine tb6 ?_ ?_
                · refine tb1 (tw_cko _ q g) ?_
                  refine tb5 (ts_X6_readSetting E q g  _ _ _  _) fun x65 s63_ => ?_
                  refine tb2 rfl fun _ => ?_
                  rfl
                · refine tb6 ?_ ?_
                  · refine tb1 (tw_cko _ q g) ?_
                    refine tb5 (ts_X6_readSetting E q g  _ _ _  _) fun x71 s69_ => ?_
                    refine tb2 rfl fun _ => ?_
                    rfl
                  · refine tb6 ?_ ?_
                    · refine tb1 (tw_cko _ q g) ?_
                      refine tb5 (ts_X6_readSetting E q g  _ _ _  _) fun x77 s75_ => ?_
                      refine tb2 rfl fun _ => ?_
                      rfl
                    · refine tb1 (tw_cko _ q g) ?_
                      refine tb5 (ts_X6_fail E q g  _  _) fun x82 s80_ => ?_
                      refine tb2 rfl fun _ => ?_
                      rfl
def t_X6_readStatement (E : zE) (s : twS) : Option (Int32 × twS) :=
  t_X6_readStatement_b0 E s
theorem ts_X6_readStatement (E : zE) (q : Nat) (g : zH) (s : twS) : f_X6_readStatement E q (tw s q g) = (t_X6_readStatement E  s).map (zem q g) := by
  unfold f_X6_readStatement t_X6_readStatement
  exact ts_X6_readStatement_b0 E q g   _
def t_X6_load_b43 (E : zE) (p1 : Int32) (s : twS) : Option (Int32 × twS) :=
  if (tSc (uSc s 9 (0 : Int32)) 11) = 0 then (
    bnd2 (t_X6_copyBlock E (3 : Int32) (0 : Int32) (uSc s 9 (0 : Int32))) fun x9 s7_ =>
    (tsI (uSc (uSc s7_ 19 (0 : Int32)) 20 (0 : Int32)) 2 3 (0 : Int32) (0 : Int32)).bind fun s16_ =>
    (tsI s16_ 2 3 (1 : Int32) (0 : Int32)).bind fun s20_ =>
    some (p1, s20_)
  ) else (
    some ((-4 : Int32), (uSc s 9 (0 : Int32)))
  )
theorem ts_X6_load_b43 (E : zE) (q : Nat) (g : zH) (p1 : Int32) (s : twS) : f_X6_load_b43 E q p1 (tw s q g) = (t_X6_load_b43 E p1 s).map (zem q g) := by
  unfold f_X6_load_b43 t_X6_load_b43
  refine tb1 (tw_pI_9 _ q g _) ?_
  refine tb1 (tw_gI_11 _ q g) ?_
  refine tb6 ?_ ?_
  · refine tb1 (tw_cko _ q g) ?_
    refine tb5 (ts_X6_copyBlock E q g  _ _  _) fun x9 s7_ => ?_
    refine tb1 (tw_pI_19 _ q g _) ?_
    refine tb1 (tw_pI_20 _ q g _) ?_
    refine tb1 (tw_gR_1 _ q g) ?_
    refine tb4 (tw_sI _ q g (by decide) _ _ _ ) fun s16_ => ?_
    refine tb1 (tw_gR_1 _ q g) ?_
    refine tb4 (tw_sI _ q g (by decide) _ _ _ ) fun s20_ => ?_
    rfl
  · rfl
def t_X6_load_l16 (E : zE) : Nat → Int32 → twS → Option (Int32 × twS)
  | 0, _, _ => none
  | n + 1, p1, s =>
    if (tSc s 11) = 0 then (
      if (tSc s 13) = 0 then (
        t_X6_load_b43 E p1 s
      ) else (
        bnd2 (t_X6_readStatement E s) fun x10 s8_ =>
        if x10 = 0 then (
          t_X6_load_l16 E n p1 s8_
        ) else (
          t_X6_load_l16 E n (p1 + 1) s8_
        )
      )
    ) else (
      t_X6_load_b43 E p1 s
    )
theorem ts_X6_load_l16 (E : zE) (q : Nat) (g : zH) : ∀ (n : Nat) (p1 : Int32) (s : twS), f_X6_load_l16 E n q p1 (tw s q g) = (t_X6_load_l16 E n p1 s).map (zem q g) := by
  intro n
  induction n with
  | zero => intros; rfl
  | succ n ih =>
    intro p1 s
    unfold f_X6_load_l16 t_X6_load_l16
    refine tb1 (tw_gI_11 _ q g) ?_
    refine tb6 ?_ ?_
    · refine tb1 (tw_gI_13 _ q g) ?_
      refine tb6 ?_ ?_
      · exact ts_X6_load_b43 E q g  _  _
      · refine tb1 (tw_cko _ q g) ?_
        refine tb5 (ts_X6_readStatement E q g   _) fun x10 s8_ => ?_
        refine tb6 ?_ ?_
        · exact ih _  _
        · exact ih _  _
    · exact ts_X6_load_b43 E q g  _  _
def t_X6_load_b0 (E : zE) (s : twS) : Option (Int32 × twS) :=
  bnd2 (t_X6_clearBlock E (3 : Int32) (uSc s 2 (0 : Int32))) fun x6 s4_ =>
  bnd2 (t_X6_beginText E s4_) fun x10 s8_ =>
  t_X6_load_l16 E E.1 (0 : Int32) s8_
theorem ts_X6_load_b0 (E : zE) (q : Nat) (g : zH) (s : twS) : f_X6_load_b0 E q (tw s q g) = (t_X6_load_b0 E  s).map (zem q g) := by
  unfold f_X6_load_b0 t_X6_load_b0
  refine tb1 (tw_pI_2 _ q g _) ?_
  refine tb1 (tw_cko _ q g) ?_
  refine tb5 (ts_X6_clearBlock E q g  _  _) fun x6 s4_ => ?_
  refine tb1 (tw_cko _ q g) ?_
  refine tb5 (ts_X6_beginText E q g   _) fun x10 s8_ => ?_
  exact ts_X6_load_l16 E q g E.1 _  _
def t_X6_load (E : zE) (s : twS) : Option (Int32 × twS) :=
  t_X6_load_b0 E s
theorem ts_X6_load (E : zE) (q : Nat) (g : zH) (s : twS) : f_X6_load E q (tw s q g) = (t_X6_load E  s).map (zem q g) := by
  unfold f_X6_load t_X6_load
  exact ts_X6_load_b0 E q g   _
def t_X6_entryKind_b203 (E : zE) (s0 : Int32) (s : twS) : Option (Int32 × twS) :=
  some (s0, s)
theorem ts_X6_entryKind_b203 (E : zE) (q : Nat) (g : zH) (s0 : Int32) (s : twS) : f_X6_entryKind_b203 E s0 (tw s q g) = (t_X6_entryKind_b203 E s0 s).map (zem q g) := by
  unfold f_X6_entryKind_b203 t_X6_entryKind_b203
  rfl
def t_X6_entryKind_b0 (E : zE) (s : twS) : Option (Int32 × twS) :=
  if (tSc s 13) = (1 : Int32) then (
    bnd2 (t_X6_pack E (115 : Int32) (97 : Int32) (108 : Int32) (101 : Int32) (115 : Int32) s) fun x8 s6_ =>
    if s.2.2.2.2 = x8 then (
      some ((0 : Int32), s6_)
    ) else (
      bnd2 (t_X6_pack E (100 : Int32) (101 : Int32) (108 : Int32) (105 : Int32) (118 : Int32) s6_) fun x14 s12_ =>
      bnd2 (t_X6_pack E (101 : Int32) (114 : Int32) (0 : Int32) (0 : Int32) (0 : Int32) s12_) fun x17 s15_ =>
      if s6_.2.2.2.2 = ((x14 * (1024 : Int64)) + x17) then (
        some ((1 : Int32), s15_)
      ) else (
        bnd2 (t_X6_pack E (112 : Int32) (97 : Int32) (121 : Int32) (0 : Int32) (0 : Int32) s15_) fun x23 s21_ =>
        if s15_.2.2.2.2 = x23 then (
          some ((2 : Int32), s21_)
        ) else (
          bnd2 (t_X6_pack E (103 : Int32) (114 : Int32) (97 : Int32) (110 : Int32) (116 : Int32) s21_) fun x29 s27_ =>
          if s21_.2.2.2.2 = x29 then (
            some ((3 : Int32), s27_)
          ) else (
            bnd2 (t_X6_pack E (99 : Int32) (97 : Int32) (109 : Int32) (112 : Int32) (97 : Int32) s27_) fun x35 s33_ =>
            bnd2 (t_X6_pack E (105 : Int32) (103 : Int32) (110 : Int32) (0 : Int32) (0 : Int32) s33_) fun x38 s36_ =>
            if s27_.2.2.2.2 = ((x35 * (32768 : Int64)) + x38) then (
              some ((4 : Int32), s36_)
            ) else (
              bnd2 (t_X6_pack E (118 : Int32) (111 : Int32) (116 : Int32) (101 : Int32) (0 : Int32) s36_) fun x44 s42_ =>
              if s36_.2.2.2.2 = x44 then (
                some ((5 : Int32), s42_)
              ) else (
                bnd2 (t_X6_pack E (99 : Int32) (108 : Int32) (111 : Int32) (115 : Int32) (101 : Int32) s42_) fun x50 s48_ =>
                if s42_.2.2.2.2 = x50 then (
                  t_X6_entryKind_b203 E (6 : Int32) s48_
                ) else (
                  t_X6_entryKind_b203 E (-1 : Int32) s48_
                )
              )
            )
          )
        )
      )
    )
  ) else (
    some ((-1 : Int32), s)
  )
theorem ts_X6_entryKind_b0 (E : zE) (q : Nat) (g : zH) (s : twS) : f_X6_entryKind_b0 E q (tw s q g) = (t_X6_entryKind_b0 E  s).map (zem q g) := by
  unfold f_X6_entryKind_b0 t_X6_entryKind_b0
  refine tb1 (tw_gI_13 _ q g) ?_
  refine tb6 ?_ ?_
  · refine tb1 (tw_gL_16 _ q g) ?_
    refine tb5 (ts_X6_pack E q g  _ _ _ _ _  _) fun x8 s6_ => ?_
    refine tb6 ?_ ?_
    · rfl
    · refine tb1 (tw_gL_16 _ q g) ?_
      refine tb5 (ts_X6_pack E q g  _ _ _ _ _  _) fun x14 s12_ => ?_
      refine tb5 (ts_X6_pack E q g  _ _ _ _ _  _) fun x17 s15_ => ?_
      refine tb6 ?_ ?_
      · rfl
      · refine tb1 (tw_gL_16 _ q g) ?_
        refine tb5 (ts_X6_pack E q g  _ _ _ _ _  _) fun x23 s21_ => ?_
        refine tb6 ?_ ?_
        · rfl
        · refine tb1 (tw_gL_16 _ q g) ?_
          refine tb5 (ts_X6_pack E q g  _ _ _ _ _  _) fun x29 s27_ => ?_
          refine tb6 ?_ ?_
          · rfl
          · refine tb1 (tw_gL_16 _ q g) ?_
            refine tb5 (ts_X6_pack E q g  _ _ _ _ _  _) fun x35 s33_ => ?_
            refine tb5 (ts_X6_pack E q g  _ _ _ _ _  _) fun x38 s36_ => ?_
            refine tb6 ?_ ?_
            · rfl
            · refine tb1 (tw_gL_16 _ q g) ?_
              refine tb5 (ts_X6_pack E q g  _ _ _ _ _  _) fun x44 s42_ => ?_
              refine tb6 ?_ ?_
              · rfl
              · refine tb1 (tw_gL_16 _ q g) ?_
                refine tb5 (ts_X6_pack E q g  _ _ _ _ _  _) fun x50 s48_ => ?_
                refine tb6 ?_ ?_
                · exact ts_X6_entryKind_b203 E q g  _  _
                · exact ts_X6_entryKind_b203 E q g  _  _
  · rfl
def t_X6_entryKind (E : zE) (s : twS) : Option (Int32 × twS) :=
  t_X6_entryKind_b0 E s
theorem ts_X6_entryKind (E : zE) (q : Nat) (g : zH) (s : twS) : f_X6_entryKind E q (tw s q g) = (t_X6_entryKind E  s).map (zem q g) := by
  unfold f_X6_entryKind t_X6_entryKind
  exact ts_X6_entryKind_b0 E q g   _
def t_X6_readPart_b0 (E : zE) (p1 : Int32) (p2 : Int32) (p3 : Int32) (s : twS) : Option (Int32 × twS) :=
  bnd2 (t_X6_readNumber E p2 p3 s) fun x4 s2_ =>
  if x4 = 0 then (
    some ((0 : Int32), s2_)
  ) else (
    (tsI s2_ 9 0 p1 (tSc s2_ 15)).bind fun s10_ =>
    some ((1 : Int32), s10_)
  )
theorem ts_X6_readPart_b0 (E : zE) (q : Nat) (g : zH) (p1 : Int32) (p2 : Int32) (p3 : Int32) (s : twS) : f_X6_readPart_b0 E q p1 p2 p3 (tw s q g) = (t_X6_readPart_b0 E p1 p2 p3 s).map (zem q g) := by
  unfold f_X6_readPart_b0 t_X6_readPart_b0
  refine tb1 (tw_cko _ q g) ?_
  refine tb5 (ts_X6_readNumber E q g  _ _  _) fun x4 s2_ => ?_
  refine tb6 ?_ ?_
  · rfl
  · refine tb1 (tw_gR_18 _ q g) ?_
    refine tb1 (tw_gI_15 _ q g) ?_
    refine tb4 (tw_sI _ q g (by decide) _ _ _ ) fun s10_ => ?_
    rfl
def t_X6_readPart (E : zE) (p1 : Int32) (p2 : Int32) (p3 : Int32) (s : twS) : Option (Int32 × twS) :=
  t_X6_readPart_b0 E p1 p2 p3 s
theorem ts_X6_readPart (E : zE) (q : Nat) (g : zH) (p1 : Int32) (p2 : Int32) (p3 : Int32) (s : twS) : f_X6_readPart E q p1 p2 p3 (tw s q g) = (t_X6_readPart E p1 p2 p3 s).map (zem q g) := by
  unfold f_X6_readPart t_X6_readPart
  exact ts_X6_readPart_b0 E q g  _ _ _  _
def t_X6_readWho_b26 (E : zE) (s0 : Int32) (s : twS) : Option (Int32 × twS) :=
  (zgd .boolean s0).bind fun _ =>
  some (s0, s)
theorem ts_X6_readWho_b26 (E : zE) (q : Nat) (g : zH) (s0 : Int32) (s : twS) : f_X6_readWho_b26 E s0 (tw s q g) = (t_X6_readWho_b26 E s0 s).map (zem q g) := by
  unfold f_X6_readWho_b26 t_X6_readWho_b26
  refine tb2 rfl fun _ => ?_
  rfl
def t_X6_readWho_b0 (E : zE) (p1 : Int32) (s : twS) : Option (Int32 × twS) :=
  bnd2 (t_X6_readName E (0 : Int32) s) fun x6 s4_ =>
  (tsI s4_ 9 0 p1 x6).bind fun s7_ =>
  (tdI s7_ 9 0 p1).bind fun x11 =>
  if x11 = (-1 : Int32) then (
    t_X6_readWho_b26 E (0 : Int32) s7_
  ) else (
    t_X6_readWho_b26 E (1 : Int32) s7_
  )
theorem ts_X6_readWho_b0 (E : zE) (q : Nat) (g : zH) (p1 : Int32) (s : twS) : f_X6_readWho_b0 E q p1 (tw s q g) = (t_X6_readWho_b0 E p1 s).map (zem q g) := by
  unfold f_X6_readWho_b0 t_X6_readWho_b0
  refine tb1 (tw_gR_18 _ q g) ?_
  refine tb1 (tw_cko _ q g) ?_
  refine tb5 (ts_X6_readName E q g  _  _) fun x6 s4_ => ?_
  refine tb4 (tw_sI _ q g (by decide) _ _ _ ) fun s7_ => ?_
  refine tb1 (tw_gR_18 _ q g) ?_
  refine tb2 (tw_dI _ q g (by decide) _ _ ) fun x11 => ?_
  refine tb6 ?_ ?_
  · exact ts_X6_readWho_b26 E q g  _  _
  · exact ts_X6_readWho_b26 E q g  _  _
def t_X6_readWho (E : zE) (p1 : Int32) (s : twS) : Option (Int32 × twS) :=
  t_X6_readWho_b0 E p1 s
theorem ts_X6_readWho (E : zE) (q : Nat) (g : zH) (p1 : Int32) (s : twS) : f_X6_readWho E q p1 (tw s q g) = (t_X6_readWho E p1 s).map (zem q g) := by
  unfold f_X6_readWho t_X6_readWho
  exact ts_X6_readWho_b0 E q g  _  _
def t_X6_readVote_b83 (E : zE) (s0 : Nat) (s1 : Int32) (s2 : Int32) (s : twS) : Option (Int32 × twS) :=
  (tsI s s0 0 s1 s2).bind fun s1_ =>
  bnd2 (t_X6_advance E s1_) fun x6 s4_ =>
  some ((1 : Int32), s4_)
theorem ts_X6_readVote_b83 (E : zE) (q : Nat) (g : zH) (s0 : Nat) (s1 : Int32) (s2 : Int32) (h_s0 : s0 < 10) (s : twS) : f_X6_readVote_b83 E q (q + s0) s1 s2 (tw s q g) = (t_X6_readVote_b83 E s0 s1 s2 s).map (zem q g) := by
  unfold f_X6_readVote_b83 t_X6_readVote_b83
  refine tb4 (tw_sI _ q g h_s0 _ _ _ ) fun s1_ => ?_
  refine tb1 (tw_cko _ q g) ?_
  refine tb5 (ts_X6_advance E q g   _) fun x6 s4_ => ?_
  rfl
def t_X6_readVote_b69 (E : zE) (p1 : Int32) (p2 : Int32) (s : twS) : Option (Int32 × twS) :=
  if p2 = 0 then (
    t_X6_readVote_b83 E 9 p1 (0 : Int32) s
  ) else (
    t_X6_readVote_b83 E 9 p1 (1 : Int32) s
  )
theorem ts_X6_readVote_b69 (E : zE) (q : Nat) (g : zH) (p1 : Int32) (p2 : Int32) (s : twS) : f_X6_readVote_b69 E q p1 p2 (tw s q g) = (t_X6_readVote_b69 E p1 p2 s).map (zem q g) := by
  unfold f_X6_readVote_b69 t_X6_readVote_b69
  refine tb1 (tw_gR_18 _ q g) ?_
  refine tb6 ?_ ?_
  · exact ts_X6_readVote_b83 E q g  _ _ _ (by decide) _
  · exact ts_X6_readVote_b83 E q g  _ _ _ (by decide) _
def t_X6_readVote_b63 (E : zE) (s : twS) : Option (Int32 × twS) :=
  bnd2 (t_X6_fail E (1 : Int32) s) fun x4 s2_ =>
  (zgd .boolean x4).bind fun _ =>
  some (x4, s2_)
theorem ts_X6_readVote_b63 (E : zE) (q : Nat) (g : zH) (s : twS) : f_X6_readVote_b63 E q (tw s q g) = (t_X6_readVote_b63 E  s).map (zem q g) := by
  unfold f_X6_readVote_b63 t_X6_readVote_b63
  refine tb1 (tw_cko _ q g) ?_
  refine tb5 (ts_X6_fail E q g  _  _) fun x4 s2_ => ?_
  refine tb2 rfl fun _ => ?_
  rfl
def t_X6_readVote_b32 (E : zE) (p1 : Int32) (s0 : Int32) (s : twS) : Option (Int32 × twS) :=
  if s0 = 0 then (
    if (tSc s 13) = (1 : Int32) then (
      bnd2 (t_X6_pack E (110 : Int32) (111 : Int32) (0 : Int32) (0 : Int32) (0 : Int32) s) fun x9 s7_ =>
      if s.2.2.2.2 = x9 then (
        t_X6_readVote_b69 E p1 s0 s7_
      ) else (
        t_X6_readVote_b63 E s7_
      )
    ) else (
      t_X6_readVote_b63 E s
    )
  ) else (
    t_X6_readVote_b69 E p1 s0 s
  )
theorem ts_X6_readVote_b32 (E : zE) (q : Nat) (g : zH) (p1 : Int32) (s0 : Int32) (s : twS) : f_X6_readVote_b32 E q p1 s0 (tw s q g) = (t_X6_readVote_b32 E p1 s0 s).map (zem q g) := by
  unfold f_X6_readVote_b32 t_X6_readVote_b32
  refine tb6 ?_ ?_
  · refine tb1 (tw_gI_13 _ q g) ?_
    refine tb6 ?_ ?_
    · refine tb1 (tw_gL_16 _ q g) ?_
      refine tb5 (ts_X6_pack E q g  _ _ _ _ _  _) fun x9 s7_ => ?_
      refine tb6 ?_ ?_
      · exact ts_X6_readVote_b69 E q g  _ _  _
      · exact ts_X6_readVote_b63 E q g   _
    · exact ts_X6_readVote_b63 E q g   _
  · exact ts_X6_readVote_b69 E q g  _ _  _
def t_X6_readVote_b31 (E : zE) (p1 : Int32) (s : twS) : Option (Int32 × twS) :=
  t_X6_readVote_b32 E p1 (0 : Int32) s
theorem ts_X6_readVote_b31 (E : zE) (q : Nat) (g : zH) (p1 : Int32) (s : twS) : f_X6_readVote_b31 E q p1 (tw s q g) = (t_X6_readVote_b31 E p1 s).map (zem q g) := by
  unfold f_X6_readVote_b31 t_X6_readVote_b31
  exact ts_X6_readVote_b32 E q g  _ _  _
def t_X6_readVote_b0 (E : zE) (p1 : Int32) (s : twS) : Option (Int32 × twS) :=
  if (tSc s 13) = (1 : Int32) then (
    bnd2 (t_X6_pack E (121 : Int32) (101 : Int32) (115 : Int32) (0 : Int32) (0 : Int32) s) fun x8 s6_ =>
    if s.2.2.2.2 = x8 then (
      t_X6_readVote_b32 E p1 (1 : Int32) s6_
    ) else (
      t_X6_readVote_b31 E p1 s6_
    )
  ) else (
    t_X6_readVote_b31 E p1 s
  )
theorem ts_X6_readVote_b0 (E : zE) (q : Nat) (g : zH) (p1 : Int32) (s : twS) : f_X6_readVote_b0 E q p1 (tw s q g) = (t_X6_readVote_b0 E p1 s).map (zem q g) := by
  unfold f_X6_readVote_b0 t_X6_readVote_b0
  refine tb1 (tw_gI_13 _ q g) ?_
  refine tb6 ?_ ?_
  · refine tb1 (tw_gL_16 _ q g) ?_
    refine tb5 (ts_X6_pack E q g  _ _ _ _ _  _) fun x8 s6_ => ?_
    refine tb6 ?_ ?_
    · exact ts_X6_readVote_b32 E q g  _ _  _
    · exact ts_X6_readVote_b31 E q g  _  _
  · exact ts_X6_readVote_b31 E q g  _  _
def t_X6_readVote (E : zE) (p1 : Int32) (s : twS) : Option (Int32 × twS) :=
  t_X6_readVote_b0 E p1 s
theorem ts_X6_readVote (E : zE) (q : Nat) (g : zH) (p1 : Int32) (s : twS) : f_X6_readVote E q p1 (tw s q g) = (t_X6_readVote E p1 s).map (zem q g) := by
  unfold f_X6_readVote t_X6_readVote
  exact ts_X6_readVote_b0 E q g  _  _
def t_X6_readParts_b72 (E : zE) (s0 : Int32) (s : twS) : Option (Int32 × twS) :=
  (zgd .boolean s0).bind fun _ =>
  some (s0, s)
theorem ts_X6_readParts_b72 (E : zE) (q : Nat) (g : zH) (s0 : Int32) (s : twS) : f_X6_readParts_b72 E s0 (tw s q g) = (t_X6_readParts_b72 E s0 s).map (zem q g) := by
  unfold f_X6_readParts_b72 t_X6_readParts_b72
  refine tb2 rfl fun _ => ?_
  rfl
def t_X6_readParts_b71 (E : zE) (s : twS) : Option (Int32 × twS) :=
  t_X6_readParts_b72 E (0 : Int32) s
theorem ts_X6_readParts_b71 (E : zE) (q : Nat) (g : zH) (s : twS) : f_X6_readParts_b71 E  (tw s q g) = (t_X6_readParts_b71 E  s).map (zem q g) := by
  unfold f_X6_readParts_b71 t_X6_readParts_b71
  exact ts_X6_readParts_b72 E q g  _  _
def t_X6_readParts_b131 (E : zE) (s0 : Int32) (s : twS) : Option (Int32 × twS) :=
  (zgd .boolean s0).bind fun _ =>
  some (s0, s)
theorem ts_X6_readParts_b131 (E : zE) (q : Nat) (g : zH) (s0 : Int32) (s : twS) : f_X6_readParts_b131 E s0 (tw s q g) = (t_X6_readParts_b131 E s0 s).map (zem q g) := by
  unfold f_X6_readParts_b131 t_X6_readParts_b131
  refine tb2 rfl fun _ => ?_
  rfl
def t_X6_readParts_b130 (E : zE) (s : twS) : Option (Int32 × twS) :=
  t_X6_readParts_b131 E (0 : Int32) s
theorem ts_X6_readParts_b130 (E : zE) (q : Nat) (g : zH) (s : twS) : f_X6_readParts_b130 E  (tw s q g) = (t_X6_readParts_b130 E  s).map (zem q g) := by
  unfold f_X6_readParts_b130 t_X6_readParts_b130
  exact ts_X6_readParts_b131 E q g  _  _
def t_X6_readParts_b161 (E : zE) (s0 : Int32) (s : twS) : Option (Int32 × twS) :=
  (zgd .boolean s0).bind fun _ =>
  some (s0, s)
theorem ts_X6_readParts_b161 (E : zE) (q : Nat) (g : zH) (s0 : Int32) (s : twS) : f_X6_readParts_b161 E s0 (tw s q g) = (t_X6_readParts_b161 E s0 s).map (zem q g) := by
  unfold f_X6_readParts_b161 t_X6_readParts_b161
  refine tb2 rfl fun _ => ?_
  rfl
def t_X6_readParts_b160 (E : zE) (s : twS) : Option (Int32 × twS) :=
  t_X6_readParts_b161 E (0 : Int32) s
theorem ts_X6_readParts_b160 (E : zE) (q : Nat) (g : zH) (s : twS) : f_X6_readParts_b160 E  (tw s q g) = (t_X6_readParts_b160 E  s).map (zem q g) := by
  unfold f_X6_readParts_b160 t_X6_readParts_b160
  exact ts_X6_readParts_b161 E q g  _  _
def t_X6_readParts_b132 (E : zE) (p2 : Int32) (s : twS) : Option (Int32 × twS) :=
  bnd2 (t_X6_readWho E (p2 + (1 : Int32)) s) fun x4 s2_ =>
  if x4 = 0 then (
    t_X6_readParts_b160 E s2_
  ) else (
    bnd2 (t_X6_readPart E (p2 + (2 : Int32)) (1 : Int32) (999999 : Int32) s2_) fun x9 s7_ =>
    if x9 = 0 then (
      t_X6_readParts_b160 E s7_
    ) else (
      t_X6_readParts_b161 E (1 : Int32) s7_
    )
  )
theorem ts_X6_readParts_b132 (E : zE) (q : Nat) (g : zH) (p2 : Int32) (s : twS) : f_X6_readParts_b132 E q p2 (tw s q g) = (t_X6_readParts_b132 E p2 s).map (zem q g) := by
  unfold f_X6_readParts_b132 t_X6_readParts_b132
  refine tb1 (tw_cko _ q g) ?_
  refine tb5 (ts_X6_readWho E q g  _  _) fun x4 s2_ => ?_
  refine tb6 ?_ ?_
  · exact ts_X6_readParts_b160 E q g   _
  · refine tb1 (tw_cko _ q g) ?_
    refine tb5 (ts_X6_readPart E q g  _ _ _  _) fun x9 s7_ => ?_
    refine tb6 ?_ ?_
    · exact ts_X6_readParts_b160 E q g   _
    · exact ts_X6_readParts_b161 E q g  _  _
def t_X6_readParts_b211 (E : zE) (s0 : Int32) (s : twS) : Option (Int32 × twS) :=
  (zgd .boolean s0).bind fun _ =>
  some (s0, s)
theorem ts_X6_readParts_b211 (E : zE) (q : Nat) (g : zH) (s0 : Int32) (s : twS) : f_X6_readParts_b211 E s0 (tw s q g) = (t_X6_readParts_b211 E s0 s).map (zem q g) := by
  unfold f_X6_readParts_b211 t_X6_readParts_b211
  refine tb2 rfl fun _ => ?_
  rfl
def t_X6_readParts_b210 (E : zE) (s : twS) : Option (Int32 × twS) :=
  t_X6_readParts_b211 E (0 : Int32) s
theorem ts_X6_readParts_b210 (E : zE) (q : Nat) (g : zH) (s : twS) : f_X6_readParts_b210 E  (tw s q g) = (t_X6_readParts_b210 E  s).map (zem q g) := by
  unfold f_X6_readParts_b210 t_X6_readParts_b210
  exact ts_X6_readParts_b211 E q g  _  _
def t_X6_readParts_b0 (E : zE) (p1 : Int32) (p2 : Int32) (s : twS) : Option (Int32 × twS) :=
  if p1 = 0 then (
    bnd2 (t_X6_readPart E (p2 + (1 : Int32)) (0 : Int32) (15 : Int32) s) fun x5 s3_ =>
    if x5 = 0 then (
      t_X6_readParts_b71 E s3_
    ) else (
      bnd2 (t_X6_readPart E (p2 + (2 : Int32)) (0 : Int32) (100000 : Int32) s3_) fun x10 s8_ =>
      if x10 = 0 then (
        t_X6_readParts_b71 E s8_
      ) else (
        t_X6_readParts_b72 E (1 : Int32) s8_
      )
    )
  ) else (
    if p1 = 1 then (
      bnd2 (t_X6_readPart E (p2 + (1 : Int32)) (0 : Int32) (15 : Int32) s) fun x16 s14_ =>
      if x16 = 0 then (
        t_X6_readParts_b130 E s14_
      ) else (
        bnd2 (t_X6_readPart E (p2 + (2 : Int32)) (0 : Int32) (29 : Int32) s14_) fun x21 s19_ =>
        if x21 = 0 then (
          t_X6_readParts_b130 E s19_
        ) else (
          bnd2 (t_X6_readPart E (p2 + (3 : Int32)) (0 : Int32) (29 : Int32) s19_) fun x26 s24_ =>
          if x26 = 0 then (
            t_X6_readParts_b130 E s24_
          ) else (
            bnd2 (t_X6_readPart E (p2 + (4 : Int32)) (1 : Int32) (100000 : Int32) s24_) fun x31 s29_ =>
            if x31 = 0 then (
              t_X6_readParts_b130 E s29_
            ) else (
              t_X6_readParts_b131 E (1 : Int32) s29_
            )
          )
        )
      )
    ) else (
      if p1 = 2 then (
        t_X6_readParts_b132 E p2 s
      ) else (
        if p1 = 3 then (
          t_X6_readParts_b132 E p2 s
        ) else (
          if p1 = 4 then (
            bnd2 (t_X6_readPart E (p2 + (1 : Int32)) (1 : Int32) (999999 : Int32) s) fun x39 s37_ =>
            (zgd .boolean x39).bind fun _ =>
            some (x39, s37_)
          ) else (
            if p1 = 5 then (
              bnd2 (t_X6_readWho E (p2 + (1 : Int32)) s) fun x45 s43_ =>
              if x45 = 0 then (
                t_X6_readParts_b210 E s43_
              ) else (
                bnd2 (t_X6_readPart E (p2 + (2 : Int32)) (0 : Int32) (4 : Int32) s43_) fun x50 s48_ =>
                if x50 = 0 then (
                  t_X6_readParts_b210 E s48_
                ) else (
                  bnd2 (t_X6_readVote E (p2 + (3 : Int32)) s48_) fun x55 s53_ =>
                  if x55 = 0 then (
                    t_X6_readParts_b210 E s53_
                  ) else (
                    t_X6_readParts_b211 E (1 : Int32) s53_
                  )
                )
              )
            ) else (
              some ((1 : Int32), s)
            )
          )
        )
      )
    )
  )
theorem ts_X6_readParts_b0 (E : zE) (q : Nat) (g : zH) (p1 : Int32) (p2 : Int32) (s : twS) : f_X6_readParts_b0 E q p1 p2 (tw s q g) = (t_X6_readParts_b0 E p1 p2 s).map (zem q g) := by
  unfold f_X6_readParts_b0 t_X6_readParts_b0
  refine tb6 ?_ ?_
  · refine tb1 (tw_cko _ q g) ?_
    refine tb5 (ts_X6_readPart E q g  _ _ _  _) fun x5 s3_ => ?_
    refine tb6 ?_ ?_
    · exact ts_X6_readParts_b71 E q g   _
    · refine tb1 (tw_cko _ q g) ?_
      refine tb5 (ts_X6_readPart E q g  _ _ _  _) fun x10 s8_ => ?_
      refine tb6 ?_ ?_
      · exact ts_X6_readParts_b71 E q g   _
      · exact ts_X6_readParts_b72 E q g  _  _
  · refine tb6 ?_ ?_
    · refine tb1 (tw_cko _ q g) ?_
      refine tb5 (ts_X6_readPart E q g  _ _ _  _) fun x16 s14_ => ?_
      refine tb6 ?_ ?_
      · exact ts_X6_readParts_b130 E q g   _
      · refine tb1 (tw_cko _ q g) ?_
        refine tb5 (ts_X6_readPart E q g  _ _ _  _) fun x21 s19_ => ?_
        refine tb6 ?_ ?_
        · exact ts_X6_readParts_b130 E q g   _
        · refine tb1 (tw_cko _ q g) ?_
          refine tb5 (ts_X6_readPart E q g  _ _ _  _) fun x26 s24_ => ?_
          refine tb6 ?_ ?_
          · exact ts_X6_readParts_b130 E q g   _
          · refine tb1 (tw_cko _ q g) ?_
            refine tb5 (ts_X6_readPart E q g  _ _ _  _) fun x31 s29_ => ?_
            refine tb6 ?_ ?_
            · exact ts_X6_readParts_b130 E q g   _
            · exact ts_X6_readParts_b131 E q g  _  _
    · refine tb6 ?_ ?_
      · exact ts_X6_readParts_b132 E q g  _  _
      · refine tb6 ?_ ?_
        · exact ts_X6_readParts_b132 E q g  _  _
        · refine tb6 ?_ ?_
          · refine tb1 (tw_cko _ q g) ?_
            refine tb5 (ts_X6_readPart E q g  _ _ _  _) fun x39 s37_ => ?_
            refine tb2 rfl fun _ => ?_
            rfl
          · refine tb6 ?_ ?_
            · refine tb1 (tw_cko _ q g) ?_
              refine tb5 (ts_X6_readWho E q g  _  _) fun x45 s43_ => ?_
              refine tb6 ?_ ?_
              · exact ts_X6_readParts_b210 E q g   _
              · refine tb1 (tw_cko _ q g) ?_
                refine tb5 (ts_X6_readPart E q g  _ _ _  _) fun x50 s48_ => ?_
                refine tb6 ?_ ?_
                · exact ts_X6_readParts_b210 E q g   _
                · refine tb1 (tw_cko _ q g) ?_
                  refine tb5 (ts_X6_readVote E q g  _  _) fun x55 s53_ => ?_
                  refine tb6 ?_ ?_
                  · exact ts_X6_readParts_b210 E q g   _
                  · exact ts_X6_readParts_b211 E q g  _  _
            · rfl
def t_X6_readParts (E : zE) (p1 : Int32) (p2 : Int32) (s : twS) : Option (Int32 × twS) :=
  t_X6_readParts_b0 E p1 p2 s
theorem ts_X6_readParts (E : zE) (q : Nat) (g : zH) (p1 : Int32) (p2 : Int32) (s : twS) : f_X6_readParts E q p1 p2 (tw s q g) = (t_X6_readParts E p1 p2 s).map (zem q g) := by
  unfold f_X6_readParts t_X6_readParts
  exact ts_X6_readParts_b0 E q g  _ _  _
def t_X6_readEntry_b80 (E : zE) (s0 : Int32) (s : twS) : Option (Int32 × twS) :=
  (zgd .boolean s0).bind fun _ =>
  some (s0, s)
theorem ts_X6_readEntry_b80 (E : zE) (q : Nat) (g : zH) (s0 : Int32) (s : twS) : f_X6_readEntry_b80 E s0 (tw s q g) = (t_X6_readEntry_b80 E s0 s).map (zem q g) := by
  unfold f_X6_readEntry_b80 t_X6_readEntry_b80
  refine tb2 rfl fun _ => ?_
  rfl
def t_X6_readEntry_b79 (E : zE) (s : twS) : Option (Int32 × twS) :=
  t_X6_readEntry_b80 E (0 : Int32) s
theorem ts_X6_readEntry_b79 (E : zE) (q : Nat) (g : zH) (s : twS) : f_X6_readEntry_b79 E  (tw s q g) = (t_X6_readEntry_b79 E  s).map (zem q g) := by
  unfold f_X6_readEntry_b79 t_X6_readEntry_b79
  exact ts_X6_readEntry_b80 E q g  _  _
def t_X6_readEntry_b0 (E : zE) (s : twS) : Option (Int32 × twS) :=
  bnd2 (t_X6_entryKind E s) fun x4 s2_ =>
  if x4 = (-1 : Int32) then (
    bnd2 (t_X6_fail E (1 : Int32) s2_) fun x41 s39_ =>
    (zgd .boolean x41).bind fun _ =>
    some (x41, s39_)
  ) else (
    if (tSc s2_ 21) = (40 : Int32) then (
      bnd2 (t_X6_fail E (4 : Int32) s2_) fun x36 s34_ =>
      (zgd .boolean x36).bind fun _ =>
      some (x36, s34_)
    ) else (
      bnd2 (t_X6_advance E s2_) fun x12 s10_ =>
      (tsI s10_ 9 0 ((5 : Int32) * (tSc s10_ 21)) x4).bind fun s17_ =>
      bnd2 (t_X6_readParts E x4 ((5 : Int32) * (tSc s10_ 21)) (uSc s17_ 21 ((tSc s17_ 21) + (1 : Int32)))) fun x26 s24_ =>
      if x26 = 0 then (
        t_X6_readEntry_b79 E s24_
      ) else (
        bnd2 (t_X6_readEnd E s24_) fun x31 s29_ =>
        if x31 = 0 then (
          t_X6_readEntry_b79 E s29_
        ) else (
          t_X6_readEntry_b80 E (1 : Int32) s29_
        )
      )
    )
  )
theorem ts_X6_readEntry_b0 (E : zE) (q : Nat) (g : zH) (s : twS) : f_X6_readEntry_b0 E q (tw s q g) = (t_X6_readEntry_b0 E  s).map (zem q g) := by
  unfold f_X6_readEntry_b0 t_X6_readEntry_b0
  refine tb1 (tw_cko _ q g) ?_
  refine tb5 (ts_X6_entryKind E q g   _) fun x4 s2_ => ?_
  refine tb6 ?_ ?_
  · refine tb1 (tw_cko _ q g) ?_
    refine tb5 (ts_X6_fail E q g  _  _) fun x41 s39_ => ?_
    refine tb2 rfl fun _ => ?_
    rfl
  · refine tb1 (tw_gI_21 _ q g) ?_
    refine tb6 ?_ ?_
    · refine tb1 (tw_cko _ q g) ?_
      refine tb5 (ts_X6_fail E q g  _  _) fun x36 s34_ => ?_
      refine tb2 rfl fun _ => ?_
      rfl
    · refine tb1 (tw_cko _ q g) ?_
      refine tb5 (ts_X6_advance E q g   _) fun x12 s10_ => ?_
      refine tb1 (tw_gI_21 _ q g) ?_
      refine tb1 (tw_gR_18 _ q g) ?_
      refine tb4 (tw_sI _ q g (by decide) _ _ _ ) fun s17_ => ?_
      refine tb1 (tw_gI_21 _ q g) ?_
      refine tb1 (tw_pI_21 _ q g _) ?_
      refine tb1 (tw_cko _ q g) ?_
      refine tb5 (ts_X6_readParts E q g  _ _  _) fun x26 s24_ => ?_
      refine tb6 ?_ ?_
      · exact ts_X6_readEntry_b79 E q g   _
      · refine tb1 (tw_cko _ q g) ?_
        refine tb5 (ts_X6_readEnd E q g   _) fun x31 s29_ => ?_
        refine tb6 ?_ ?_
        · exact ts_X6_readEntry_b79 E q g   _
        · exact ts_X6_readEntry_b80 E q g  _  _
def t_X6_readEntry (E : zE) (s : twS) : Option (Int32 × twS) :=
  t_X6_readEntry_b0 E s
theorem ts_X6_readEntry (E : zE) (q : Nat) (g : zH) (s : twS) : f_X6_readEntry E q (tw s q g) = (t_X6_readEntry E  s).map (zem q g) := by
  unfold f_X6_readEntry t_X6_readEntry
  exact ts_X6_readEntry_b0 E q g   _
def t_X6_loadJournal_l49 (E : zE) : Nat → Int32 → twS → Option (Int32 × twS)
  | 0, _, _ => none
  | n + 1, p2, s =>
    if ((5 : Int32) * (tSc s 21)) ≤ p2 then (
      some ((tSc (uSc (uSc s 19 (tSc s 21)) 20 (0 : Int32)) 21), (uSc (uSc s 19 (tSc s 21)) 20 (0 : Int32)))
    ) else (
      (tdI s 9 0 p2).bind fun x16 =>
      (tsI s 8 0 p2 x16).bind fun s18_ =>
      t_X6_loadJournal_l49 E n (p2 + 1) s18_
    )
theorem ts_X6_loadJournal_l49 (E : zE) (q : Nat) (g : zH) : ∀ (n : Nat) (p2 : Int32) (s : twS), f_X6_loadJournal_l49 E n q p2 (tw s q g) = (t_X6_loadJournal_l49 E n p2 s).map (zem q g) := by
  intro n
  induction n with
  | zero => intros; rfl
  | succ n ih =>
    intro p2 s
    unfold f_X6_loadJournal_l49 t_X6_loadJournal_l49
    refine tb1 (tw_gI_21 _ q g) ?_
    refine tb6 ?_ ?_
    · refine tb1 (tw_gI_21 _ q g) ?_
      refine tb1 (tw_pI_19 _ q g _) ?_
      refine tb1 (tw_pI_20 _ q g _) ?_
      refine tb1 (tw_gI_21 _ q g) ?_
      rfl
    · refine tb1 (tw_gR_17 _ q g) ?_
      refine tb1 (tw_gR_18 _ q g) ?_
      refine tb2 (tw_dI _ q g (by decide) _ _ ) fun x16 => ?_
      refine tb4 (tw_sI _ q g (by decide) _ _ _ ) fun s18_ => ?_
      exact ih _  _
def t_X6_loadJournal_b35 (E : zE) (p1 : Int32) (s : twS) : Option (Int32 × twS) :=
  if p1 = 0 then (
    some ((-4 : Int32), (uSc s 9 (0 : Int32)))
  ) else (
    t_X6_loadJournal_l49 E E.1 (0 : Int32) (uSc s 9 (0 : Int32))
  )
theorem ts_X6_loadJournal_b35 (E : zE) (q : Nat) (g : zH) (p1 : Int32) (s : twS) : f_X6_loadJournal_b35 E q p1 (tw s q g) = (t_X6_loadJournal_b35 E p1 s).map (zem q g) := by
  unfold f_X6_loadJournal_b35 t_X6_loadJournal_b35
  refine tb1 (tw_pI_9 _ q g _) ?_
  refine tb6 ?_ ?_
  · rfl
  · exact ts_X6_loadJournal_l49 E q g E.1 _  _
def t_X6_loadJournal_l16 (E : zE) : Nat → Int32 → twS → Option (Int32 × twS)
  | 0, _, _ => none
  | n + 1, p1, s =>
    if p1 = 0 then (
      t_X6_loadJournal_b35 E p1 s
    ) else (
      if (tSc s 13) = 0 then (
        t_X6_loadJournal_b35 E p1 s
      ) else (
        bnd2 (t_X6_readEntry E s) fun x8 s6_ =>
        t_X6_loadJournal_l16 E n x8 s6_
      )
    )
theorem ts_X6_loadJournal_l16 (E : zE) (q : Nat) (g : zH) : ∀ (n : Nat) (p1 : Int32) (s : twS), f_X6_loadJournal_l16 E n q p1 (tw s q g) = (t_X6_loadJournal_l16 E n p1 s).map (zem q g) := by
  intro n
  induction n with
  | zero => intros; rfl
  | succ n ih =>
    intro p1 s
    unfold f_X6_loadJournal_l16 t_X6_loadJournal_l16
    refine tb6 ?_ ?_
    · exact ts_X6_loadJournal_b35 E q g  _  _
    · refine tb1 (tw_gI_13 _ q g) ?_
      refine tb6 ?_ ?_
      · exact ts_X6_loadJournal_b35 E q g  _  _
      · refine tb1 (tw_cko _ q g) ?_
        refine tb5 (ts_X6_readEntry E q g   _) fun x8 s6_ => ?_
        exact ih _  _
def t_X6_loadJournal_b0 (E : zE) (s : twS) : Option (Int32 × twS) :=
  bnd2 (t_X6_beginText E (uSc (uSc s 2 (0 : Int32)) 21 (0 : Int32))) fun x8 s6_ =>
  t_X6_loadJournal_l16 E E.1 (1 : Int32) s6_
theorem ts_X6_loadJournal_b0 (E : zE) (q : Nat) (g : zH) (s : twS) : f_X6_loadJournal_b0 E q (tw s q g) = (t_X6_loadJournal_b0 E  s).map (zem q g) := by
  unfold f_X6_loadJournal_b0 t_X6_loadJournal_b0
  refine tb1 (tw_pI_2 _ q g _) ?_
  refine tb1 (tw_pI_21 _ q g _) ?_
  refine tb1 (tw_cko _ q g) ?_
  refine tb5 (ts_X6_beginText E q g   _) fun x8 s6_ => ?_
  exact ts_X6_loadJournal_l16 E q g E.1 _  _
def t_X6_loadJournal (E : zE) (s : twS) : Option (Int32 × twS) :=
  t_X6_loadJournal_b0 E s
theorem ts_X6_loadJournal (E : zE) (q : Nat) (g : zH) (s : twS) : f_X6_loadJournal E q (tw s q g) = (t_X6_loadJournal E  s).map (zem q g) := by
  unfold f_X6_loadJournal t_X6_loadJournal
  exact ts_X6_loadJournal_b0 E q g   _
def t_X6_entry_b0 (E : zE) (p1 : Int32) (s : twS) : Option (Int32 × twS) :=
  (tdI s 8 0 (((5 : Int32) * (tSc s 20)) + p1)).bind fun x5 =>
  some (x5, s)
theorem ts_X6_entry_b0 (E : zE) (q : Nat) (g : zH) (p1 : Int32) (s : twS) : f_X6_entry_b0 E q p1 (tw s q g) = (t_X6_entry_b0 E p1 s).map (zem q g) := by
  unfold f_X6_entry_b0 t_X6_entry_b0
  refine tb1 (tw_gR_17 _ q g) ?_
  refine tb1 (tw_gI_20 _ q g) ?_
  refine tb2 (tw_dI _ q g (by decide) _ _ ) fun x5 => ?_
  rfl
def t_X6_entry (E : zE) (p1 : Int32) (s : twS) : Option (Int32 × twS) :=
  t_X6_entry_b0 E p1 s
theorem ts_X6_entry (E : zE) (q : Nat) (g : zH) (p1 : Int32) (s : twS) : f_X6_entry E q p1 (tw s q g) = (t_X6_entry E p1 s).map (zem q g) := by
  unfold f_X6_entry t_X6_entry
  exact ts_X6_entry_b0 E q g  _  _
def t_X6_cents_b0 (E : zE) (p1 : Int32) (s : twS) : Option (Int64 × twS) :=
  bnd2 (t_X6_entry E p1 s) fun x4 s2_ =>
  some (((100 : Int64) * (x4.toInt64)), s2_)
theorem ts_X6_cents_b0 (E : zE) (q : Nat) (g : zH) (p1 : Int32) (s : twS) : f_X6_cents_b0 E q p1 (tw s q g) = (t_X6_cents_b0 E p1 s).map (zem q g) := by
  unfold f_X6_cents_b0 t_X6_cents_b0
  refine tb1 (tw_cko _ q g) ?_
  refine tb5 (ts_X6_entry E q g  _  _) fun x4 s2_ => ?_
  rfl
def t_X6_cents (E : zE) (p1 : Int32) (s : twS) : Option (Int64 × twS) :=
  t_X6_cents_b0 E p1 s
theorem ts_X6_cents (E : zE) (q : Nat) (g : zH) (p1 : Int32) (s : twS) : f_X6_cents E q p1 (tw s q g) = (t_X6_cents E p1 s).map (zem q g) := by
  unfold f_X6_cents t_X6_cents
  exact ts_X6_cents_b0 E q g  _  _
def t_X6_execute_b217 (E : zE) (s0 : Int32) (s1 : Int32) (s : twS) : Option (Int32 × twS) :=
  (zgd .boolean (s0 &&& s1)).bind fun _ =>
  some ((s0 &&& s1), (uSc s 2 (0 : Int32)))
theorem ts_X6_execute_b217 (E : zE) (q : Nat) (g : zH) (s0 : Int32) (s1 : Int32) (s : twS) : f_X6_execute_b217 E q s0 s1 (tw s q g) = (t_X6_execute_b217 E s0 s1 s).map (zem q g) := by
  unfold f_X6_execute_b217 t_X6_execute_b217
  refine tb1 (tw_pI_2 _ q g _) ?_
  refine tb2 rfl fun _ => ?_
  rfl
def t_X6_execute_b204 (E : zE) (p1 : Int32) (s : twS) : Option (Int32 × twS) :=
  if (tSc s 2) = 0 then (
    t_X6_execute_b217 E p1 (1 : Int32) s
  ) else (
    t_X6_execute_b217 E p1 (0 : Int32) s
  )
theorem ts_X6_execute_b204 (E : zE) (q : Nat) (g : zH) (p1 : Int32) (s : twS) : f_X6_execute_b204 E q p1 (tw s q g) = (t_X6_execute_b204 E p1 s).map (zem q g) := by
  unfold f_X6_execute_b204 t_X6_execute_b204
  refine tb1 (tw_gI_2 _ q g) ?_
  refine tb6 ?_ ?_
  · exact ts_X6_execute_b217 E q g  _ _  _
  · exact ts_X6_execute_b217 E q g  _ _  _
def t_X6_execute_b68 (E : zE) (s0 : Int32) (s : twS) : Option (Int32 × twS) :=
  t_X6_execute_b204 E s0 s
theorem ts_X6_execute_b68 (E : zE) (q : Nat) (g : zH) (s0 : Int32) (s : twS) : f_X6_execute_b68 E q s0 (tw s q g) = (t_X6_execute_b68 E s0 s).map (zem q g) := by
  unfold f_X6_execute_b68 t_X6_execute_b68
  exact ts_X6_execute_b204 E q g  _  _
def t_X6_execute_b106 (E : zE) (s0 : Int32) (s : twS) : Option (Int32 × twS) :=
  t_X6_execute_b204 E s0 s
theorem ts_X6_execute_b106 (E : zE) (q : Nat) (g : zH) (s0 : Int32) (s : twS) : f_X6_execute_b106 E q s0 (tw s q g) = (t_X6_execute_b106 E s0 s).map (zem q g) := by
  unfold f_X6_execute_b106 t_X6_execute_b106
  exact ts_X6_execute_b204 E q g  _  _
def t_X6_execute_b195 (E : zE) (s0 : Int32) (s : twS) : Option (Int32 × twS) :=
  t_X6_execute_b204 E s0 s
theorem ts_X6_execute_b195 (E : zE) (q : Nat) (g : zH) (s0 : Int32) (s : twS) : f_X6_execute_b195 E q s0 (tw s q g) = (t_X6_execute_b195 E s0 s).map (zem q g) := by
  unfold f_X6_execute_b195 t_X6_execute_b195
  exact ts_X6_execute_b204 E q g  _  _
def t_X6_execute_b184 (E : zE) (s1 : Int32) (s2 : Int32) (s3 : Int32) (s : twS) : Option (Int32 × twS) :=
  bnd2 (t_X6_vote E s1 s2 s3 s) fun x4 s2_ =>
  if x4 < 0 then (
    t_X6_execute_b195 E (0 : Int32) s2_
  ) else (
    t_X6_execute_b195 E (1 : Int32) s2_
  )
theorem ts_X6_execute_b184 (E : zE) (q : Nat) (g : zH) (s1 : Int32) (s2 : Int32) (s3 : Int32) (s : twS) : f_X6_execute_b184 E q q s1 s2 s3 (tw s q g) = (t_X6_execute_b184 E s1 s2 s3 s).map (zem q g) := by
  unfold f_X6_execute_b184 t_X6_execute_b184
  refine tb1 (tw_cko _ q g) ?_
  refine tb5 (ts_X6_vote E q g  _ _ _  _) fun x4 s2_ => ?_
  refine tb6 ?_ ?_
  · exact ts_X6_execute_b195 E q g  _  _
  · exact ts_X6_execute_b195 E q g  _  _
def t_X6_execute_b0 (E : zE) (s : twS) : Option (Int32 × twS) :=
  bnd2 (t_X6_entry E (0 : Int32) s) fun x4 s2_ =>
  if x4 = 0 then (
    bnd2 (t_X6_entry E (1 : Int32) s2_) fun x9 s7_ =>
    bnd2 (t_X6_cents E (2 : Int32) s7_) fun x13 s11_ =>
    bnd2 (t_X6_reportSales E x9 x13 s11_) fun x17 s15_ =>
    if x17 < (0 : Int64) then (
      t_X6_execute_b68 E (0 : Int32) s15_
    ) else (
      t_X6_execute_b68 E (1 : Int32) s15_
    )
  ) else (
    if x4 = 1 then (
      bnd2 (t_X6_entry E (1 : Int32) s2_) fun x23 s21_ =>
      bnd2 (t_X6_entry E (2 : Int32) s21_) fun x27 s25_ =>
      bnd2 (t_X6_entry E (3 : Int32) s25_) fun x31 s29_ =>
      bnd2 (t_X6_cents E (4 : Int32) s29_) fun x35 s33_ =>
      bnd2 (t_X6_deliver E x23 x27 x31 x35 s33_) fun x39 s37_ =>
      if x39 < (0 : Int64) then (
        t_X6_execute_b106 E (0 : Int32) s37_
      ) else (
        t_X6_execute_b106 E (1 : Int32) s37_
      )
    ) else (
      if x4 = 2 then (
        bnd2 (t_X6_entry E (1 : Int32) s2_) fun x45 s43_ =>
        bnd2 (t_X6_cents E (2 : Int32) s43_) fun x49 s47_ =>
        bnd2 (t_X6_pay E x45 x49 s47_) fun x53 s51_ =>
        t_X6_execute_b204 E (1 : Int32) s51_
      ) else (
        if x4 = 3 then (
          bnd2 (t_X6_entry E (1 : Int32) s2_) fun x58 s56_ =>
          bnd2 (t_X6_cents E (2 : Int32) s56_) fun x62 s60_ =>
          bnd2 (t_X6_grant E x58 x62 s60_) fun x66 s64_ =>
          t_X6_execute_b204 E x66 s64_
        ) else (
          if x4 = 4 then (
            bnd2 (t_X6_cents E (1 : Int32) s2_) fun x71 s69_ =>
            bnd2 (t_X6_campaign E x71 s69_) fun x75 s73_ =>
            t_X6_execute_b204 E x75 s73_
          ) else (
            if x4 = 5 then (
              bnd2 (t_X6_entry E (1 : Int32) s2_) fun x80 s78_ =>
              bnd2 (t_X6_entry E (2 : Int32) s78_) fun x84 s82_ =>
              bnd2 (t_X6_entry E (3 : Int32) s82_) fun x88 s86_ =>
              if x88 = (1 : Int32) then (
                t_X6_execute_b184 E x80 x84 (1 : Int32) s86_
              ) else (
                t_X6_execute_b184 E x80 x84 (0 : Int32) s86_
              )
            ) else (
              bnd2 (t_X6_closeMonth E s2_) fun x93 s91_ =>
              t_X6_execute_b204 E (1 : Int32) s91_
            )
          )
        )
      )
    )
  )
theorem ts_X6_execute_b0 (E : zE) (q : Nat) (g : zH) (s : twS) : f_X6_execute_b0 E q (tw s q g) = (t_X6_execute_b0 E  s).map (zem q g) := by
  unfold f_X6_execute_b0 t_X6_execute_b0
  refine tb1 (tw_cko _ q g) ?_
  refine tb5 (ts_X6_entry E q g  _  _) fun x4 s2_ => ?_
  refine tb6 ?_ ?_
  · refine tb1 (tw_cko _ q g) ?_
    refine tb5 (ts_X6_entry E q g  _  _) fun x9 s7_ => ?_
    refine tb1 (tw_cko _ q g) ?_
    refine tb5 (ts_X6_cents E q g  _  _) fun x13 s11_ => ?_
    refine tb1 (tw_cko _ q g) ?_
    refine tb5 (ts_X6_reportSales E q g  _ _  _) fun x17 s15_ => ?_
    refine tb6 ?_ ?_
    · exact ts_X6_execute_b68 E q g  _  _
    · exact ts_X6_execute_b68 E q g  _  _
  · refine tb6 ?_ ?_
    · refine tb1 (tw_cko _ q g) ?_
      refine tb5 (ts_X6_entry E q g  _  _) fun x23 s21_ => ?_
      refine tb1 (tw_cko _ q g) ?_
      refine tb5 (ts_X6_entry E q g  _  _) fun x27 s25_ => ?_
      refine tb1 (tw_cko _ q g) ?_
      refine tb5 (ts_X6_entry E q g  _  _) fun x31 s29_ => ?_
      refine tb1 (tw_cko _ q g) ?_
      refine tb5 (ts_X6_cents E q g  _  _) fun x35 s33_ => ?_
      refine tb1 (tw_cko _ q g) ?_
      refine tb5 (ts_X6_deliver E q g  _ _ _ _  _) fun x39 s37_ => ?_
      refine tb6 ?_ ?_
      · exact ts_X6_execute_b106 E q g  _  _
      · exact ts_X6_execute_b106 E q g  _  _
    · refine tb6 ?_ ?_
      · refine tb1 (tw_cko _ q g) ?_
        refine tb5 (ts_X6_entry E q g  _  _) fun x45 s43_ => ?_
        refine tb1 (tw_cko _ q g) ?_
        refine tb5 (ts_X6_cents E q g  _  _) fun x49 s47_ => ?_
        refine tb1 (tw_cko _ q g) ?_
        refine tb5 (ts_X6_pay E q g  _ _  _) fun x53 s51_ => ?_
        exact ts_X6_execute_b204 E q g  _  _
      · refine tb6 ?_ ?_
        · refine tb1 (tw_cko _ q g) ?_
          refine tb5 (ts_X6_entry E q g  _  _) fun x58 s56_ => ?_
          refine tb1 (tw_cko _ q g) ?_
          refine tb5 (ts_X6_cents E q g  _  _) fun x62 s60_ => ?_
          refine tb1 (tw_cko _ q g) ?_
          refine tb5 (ts_X6_grant E q g  _ _  _) fun x66 s64_ => ?_
          exact ts_X6_execute_b204 E q g  _  _
        · refine tb6 ?_ ?_
          · refine tb1 (tw_cko _ q g) ?_
            refine tb5 (ts_X6_cents E q g  _  _) fun x71 s69_ => ?_
            refine tb1 (tw_cko _ q g) ?_
            refine tb5 (ts_X6_campaign E q g  _  _) fun x75 s73_ => ?_
            exact ts_X6_execute_b204 E q g  _  _
          · refine tb6 ?_ ?_
            · refine tb1 (tw_cko _ q g) ?_
              refine tb5 (ts_X6_entry E q g  _  _) fun x80 s78_ => ?_
              refine tb1 (tw_cko _ q g) ?_
              refine tb5 (ts_X6_entry E q g  _  _) fun x84 s82_ => ?_
              refine tb1 (tw_cko _ q g) ?_
              refine tb5 (ts_X6_entry E q g  _  _) fun x88 s86_ => ?_
              refine tb6 ?_ ?_
              · exact ts_X6_execute_b184 E q g  _ _ _  _
              · exact ts_X6_execute_b184 E q g  _ _ _  _
            · refine tb1 (tw_cko _ q g) ?_
              refine tb5 (ts_X6_closeMonth E q g   _) fun x93 s91_ => ?_
              exact ts_X6_execute_b204 E q g  _  _
def t_X6_execute (E : zE) (s : twS) : Option (Int32 × twS) :=
  t_X6_execute_b0 E s
theorem ts_X6_execute (E : zE) (q : Nat) (g : zH) (s : twS) : f_X6_execute E q (tw s q g) = (t_X6_execute E  s).map (zem q g) := by
  unfold f_X6_execute t_X6_execute
  exact ts_X6_execute_b0 E q g   _
def t_X6_runJournal_b83 (E : zE) (p2 : Int32) (s : twS) : Option (Int32 × twS) :=
  some (p2, s)
theorem ts_X6_runJournal_b83 (E : zE) (q : Nat) (g : zH) (p2 : Int32) (s : twS) : f_X6_runJournal_b83 E p2 (tw s q g) = (t_X6_runJournal_b83 E p2 s).map (zem q g) := by
  unfold f_X6_runJournal_b83 t_X6_runJournal_b83
  rfl
def t_X6_runJournal_b65 (E : zE) (k36 : Int32 → Int32 → Int32 → twS → Option (Int32 × twS)) (p1 : Int32) (p3 : Int32) (s0 : Int32) (s1 : Int32) (s : twS) : Option (Int32 × twS) :=
  k36 p1 (s0 + s1) (p3 + 1) (uSc s 20 ((tSc s 20) + (1 : Int32)))
theorem ts_X6_runJournal_b65 (E : zE) (q : Nat) (g : zH) {K36 : Nat → Int32 → Int32 → Int32 → zH → Option (Int32 × zH)} {k36 : Int32 → Int32 → Int32 → twS → Option (Int32 × twS)} (hk36 : ∀ (p1 : Int32) (p2 : Int32) (p3 : Int32) (s : twS), K36 q p1 p2 p3 (tw s q g) = (k36 p1 p2 p3 s).map (zem q g)) (p1 : Int32) (p3 : Int32) (s0 : Int32) (s1 : Int32) (s : twS) : f_X6_runJournal_b65 E K36 q p1 p3 s0 s1 (tw s q g) = (t_X6_runJournal_b65 E k36 p1 p3 s0 s1 s).map (zem q g) := by
  unfold f_X6_runJournal_b65 t_X6_runJournal_b65
  refine tb1 (tw_gI_20 _ q g) ?_
  refine tb1 (tw_pI_20 _ q g _) ?_
  exact hk36 _ _ _  _
def t_X6_runJournal_l36 (E : zE) : Nat → Int32 → Int32 → Int32 → twS → Option (Int32 × twS)
  | 0, _, _, _, _ => none
  | n + 1, p1, p2, p3, s =>
    if p1 ≤ p3 then (
      t_X6_runJournal_b83 E p2 s
    ) else (
      if (tSc s 19) ≤ (tSc s 20) then (
        t_X6_runJournal_b83 E p2 s
      ) else (
        bnd2 (t_X6_execute E s) fun x10 s8_ =>
        if x10 = 0 then (
          t_X6_runJournal_b65 E (t_X6_runJournal_l36 E n) p1 p3 p2 (0 : Int32) s8_
        ) else (
          t_X6_runJournal_b65 E (t_X6_runJournal_l36 E n) p1 p3 p2 (1 : Int32) s8_
        )
      )
    )
theorem ts_X6_runJournal_l36 (E : zE) (q : Nat) (g : zH) : ∀ (n : Nat) (p1 : Int32) (p2 : Int32) (p3 : Int32) (s : twS), f_X6_runJournal_l36 E n q p1 p2 p3 (tw s q g) = (t_X6_runJournal_l36 E n p1 p2 p3 s).map (zem q g) := by
  intro n
  induction n with
  | zero => intros; rfl
  | succ n ih =>
    intro p1 p2 p3 s
    unfold f_X6_runJournal_l36 t_X6_runJournal_l36
    refine tb6 ?_ ?_
    · exact ts_X6_runJournal_b83 E q g  _  _
    · refine tb1 (tw_gI_20 _ q g) ?_
      refine tb1 (tw_gI_19 _ q g) ?_
      refine tb6 ?_ ?_
      · exact ts_X6_runJournal_b83 E q g  _  _
      · refine tb1 (tw_cko _ q g) ?_
        refine tb5 (ts_X6_execute E q g   _) fun x10 s8_ => ?_
        refine tb6 ?_ ?_
        · exact ts_X6_runJournal_b65 E q g ih  _ _ _ _  _
        · exact ts_X6_runJournal_b65 E q g ih  _ _ _ _  _
def t_X6_runJournal_b23 (E : zE) (p1 : Int32) (s1 : Int32) (s : twS) : Option (Int32 × twS) :=
  bnd2 (t_X6_throwsIf E s1 (1 : Int32) s) fun x4 s2_ =>
  if x4 = 0 then (
    t_X6_runJournal_l36 E E.1 p1 (0 : Int32) (0 : Int32) s2_
  ) else (
    some ((0 : Int32), s2_)
  )
theorem ts_X6_runJournal_b23 (E : zE) (q : Nat) (g : zH) (p1 : Int32) (s1 : Int32) (s : twS) : f_X6_runJournal_b23 E q p1 q s1 (tw s q g) = (t_X6_runJournal_b23 E p1 s1 s).map (zem q g) := by
  unfold f_X6_runJournal_b23 t_X6_runJournal_b23
  refine tb1 (tw_cko _ q g) ?_
  refine tb5 (ts_X6_throwsIf E q g  _ _  _) fun x4 s2_ => ?_
  refine tb6 ?_ ?_
  · exact ts_X6_runJournal_l36 E q g E.1 _ _ _  _
  · rfl
def t_X6_runJournal_b0 (E : zE) (p1 : Int32) (s : twS) : Option (Int32 × twS) :=
  bnd2 (t_X6_inRange E (p1.toInt64) (1 : Int64) (40 : Int64) (uSc s 2 (0 : Int32))) fun x5 s3_ =>
  if x5 = 0 then (
    t_X6_runJournal_b23 E p1 (1 : Int32) s3_
  ) else (
    t_X6_runJournal_b23 E p1 (0 : Int32) s3_
  )
theorem ts_X6_runJournal_b0 (E : zE) (q : Nat) (g : zH) (p1 : Int32) (s : twS) : f_X6_runJournal_b0 E q p1 (tw s q g) = (t_X6_runJournal_b0 E p1 s).map (zem q g) := by
  unfold f_X6_runJournal_b0 t_X6_runJournal_b0
  refine tb1 (tw_pI_2 _ q g _) ?_
  refine tb5 (ts_X6_inRange E q g  _ _ _  _) fun x5 s3_ => ?_
  refine tb6 ?_ ?_
  · exact ts_X6_runJournal_b23 E q g  _ _  _
  · exact ts_X6_runJournal_b23 E q g  _ _  _
def t_X6_runJournal (E : zE) (p1 : Int32) (s : twS) : Option (Int32 × twS) :=
  t_X6_runJournal_b0 E p1 s
theorem ts_X6_runJournal (E : zE) (q : Nat) (g : zH) (p1 : Int32) (s : twS) : f_X6_runJournal E q p1 (tw s q g) = (t_X6_runJournal E p1 s).map (zem q g) := by
  unfold f_X6_runJournal t_X6_runJournal
  exact ts_X6_runJournal_b0 E q g  _  _
def t_X6_find_b89 (E : zE) (s0 : Int32) (s : twS) : Option (Int32 × twS) :=
  some (s0, s)
theorem ts_X6_find_b89 (E : zE) (q : Nat) (g : zH) (s0 : Int32) (s : twS) : f_X6_find_b89 E s0 (tw s q g) = (t_X6_find_b89 E s0 s).map (zem q g) := by
  unfold f_X6_find_b89 t_X6_find_b89
  rfl
def t_X6_find_b70 (E : zE) (p1 : Int64) (p3 : Int32) (s : twS) : Option (Int32 × twS) :=
  if p3 = 0 then (
    t_X6_find_b89 E (-1 : Int32) (uSc s 9 (0 : Int32))
  ) else (
    bnd2 (t_X6_named E (0 : Int32) p1 (uSc s 9 (0 : Int32))) fun x7 s5_ =>
    t_X6_find_b89 E x7 s5_
  )
theorem ts_X6_find_b70 (E : zE) (q : Nat) (g : zH) (p1 : Int64) (p3 : Int32) (s : twS) : f_X6_find_b70 E q p1 p3 (tw s q g) = (t_X6_find_b70 E p1 p3 s).map (zem q g) := by
  unfold f_X6_find_b70 t_X6_find_b70
  refine tb1 (tw_pI_9 _ q g _) ?_
  refine tb6 ?_ ?_
  · exact ts_X6_find_b89 E q g  _  _
  · refine tb1 (tw_cko _ q g) ?_
    refine tb5 (ts_X6_named E q g  _ _  _) fun x7 s5_ => ?_
    exact ts_X6_find_b89 E q g  _  _
def t_X6_find_l23 (E : zE) : Nat → Int64 → Int32 → Int32 → twS → Option (Int32 × twS)
  | 0, _, _, _, _ => none
  | n + 1, p1, p3, p4, s =>
    if (tSc s 9) ≤ p4 then (
      t_X6_find_b70 E p1 p3 s
    ) else (
      if p3 = 0 then (
        t_X6_find_b70 E p1 p3 s
      ) else (
        bnd2 (t_X6_byteAt E p4 s) fun x8 s6_ =>
        bnd2 (t_X6_isLetter E x8 s6_) fun x11 s9_ =>
        bnd2 (t_X6_byteAt E p4 s9_) fun x15 s13_ =>
        t_X6_find_l23 E n (((p1 * (32 : Int64)) + (x15.toInt64)) - (96 : Int64)) x11 (p4 + 1) s13_
      )
    )
theorem ts_X6_find_l23 (E : zE) (q : Nat) (g : zH) : ∀ (n : Nat) (p1 : Int64) (p3 : Int32) (p4 : Int32) (s : twS), f_X6_find_l23 E n q p1 p3 p4 (tw s q g) = (t_X6_find_l23 E n p1 p3 p4 s).map (zem q g) := by
  intro n
  induction n with
  | zero => intros; rfl
  | succ n ih =>
    intro p1 p3 p4 s
    unfold f_X6_find_l23 t_X6_find_l23
    refine tb1 (tw_gI_9 _ q g) ?_
    refine tb6 ?_ ?_
    · exact ts_X6_find_b70 E q g  _ _  _
    · refine tb6 ?_ ?_
      · exact ts_X6_find_b70 E q g  _ _  _
      · refine tb1 (tw_cko _ q g) ?_
        refine tb5 (ts_X6_byteAt E q g  _  _) fun x8 s6_ => ?_
        refine tb5 (ts_X6_isLetter E q g  _  _) fun x11 s9_ => ?_
        refine tb1 (tw_cko _ q g) ?_
        refine tb5 (ts_X6_byteAt E q g  _  _) fun x15 s13_ => ?_
        exact ih _ _ _  _
def t_X6_find_b0 (E : zE) (s : twS) : Option (Int32 × twS) :=
  bnd2 (t_X6_inRange E ((tSc (uSc s 2 (0 : Int32)) 9).toInt64) (1 : Int64) (10 : Int64) (uSc s 2 (0 : Int32))) fun x7 s5_ =>
  t_X6_find_l23 E E.1 (0 : Int64) x7 (0 : Int32) s5_
theorem ts_X6_find_b0 (E : zE) (q : Nat) (g : zH) (s : twS) : f_X6_find_b0 E q (tw s q g) = (t_X6_find_b0 E  s).map (zem q g) := by
  unfold f_X6_find_b0 t_X6_find_b0
  refine tb1 (tw_pI_2 _ q g _) ?_
  refine tb1 (tw_gI_9 _ q g) ?_
  refine tb5 (ts_X6_inRange E q g  _ _ _  _) fun x7 s5_ => ?_
  exact ts_X6_find_l23 E q g E.1 _ _ _  _
def t_X6_find (E : zE) (s : twS) : Option (Int32 × twS) :=
  t_X6_find_b0 E s
theorem ts_X6_find (E : zE) (q : Nat) (g : zH) (s : twS) : f_X6_find E q (tw s q g) = (t_X6_find E  s).map (zem q g) := by
  unfold f_X6_find t_X6_find
  exact ts_X6_find_b0 E q g   _
