/-! the twin on its contents -/
set_option maxRecDepth 100000
def t_X6_clearBlock_l30 (E : zE) : Nat → Int32 → Int32 → twS → Option (Unit × twS)
  | 0, _, _, _ => none
  | n + 1, p1, p2, s =>
    if (900 : Int32) ≤ p2 then (
      some ((), s)
    ) else (
      (tsL s 1 ((((5054 : Int32) * p1) + (250 : Int32)) + p2) (-1 : Int64)).bind fun s4_ =>
      t_X6_clearBlock_l30 E n p1 (p2 + 1) s4_
    )
theorem ts_X6_clearBlock_l30 (E : zE) (q : Nat) (g : zH) : ∀ (n : Nat) (p1 : Int32) (p2 : Int32) (s : twS), f_X6_clearBlock_l30 E n q p1 p2 (tw s q g) = (t_X6_clearBlock_l30 E n p1 p2 s).map (zem q g) := by
  intro n
  induction n with
  | zero => intros; rfl
  | succ n ih =>
    intro p1 p2 s
    unfold f_X6_clearBlock_l30 t_X6_clearBlock_l30
    refine tb6 ?_ ?_
    · rfl
    · refine tb1 (tw_gR_0 _ q g) ?_
      refine tb4 (tw_sL _ q g (by decide) _ _ ) fun s4_ => ?_
      exact ih _ _  _
def t_X6_clearBlock_l2 (E : zE) : Nat → Int32 → Int32 → twS → Option (Unit × twS)
  | 0, _, _, _ => none
  | n + 1, p1, p2, s =>
    if (5054 : Int32) ≤ p2 then (
      t_X6_clearBlock_l30 E E.1 p1 (0 : Int32) s
    ) else (
      (tsL s 1 (((5054 : Int32) * p1) + p2) (0 : Int64)).bind fun s4_ =>
      t_X6_clearBlock_l2 E n p1 (p2 + 1) s4_
    )
theorem ts_X6_clearBlock_l2 (E : zE) (q : Nat) (g : zH) : ∀ (n : Nat) (p1 : Int32) (p2 : Int32) (s : twS), f_X6_clearBlock_l2 E n q p1 p2 (tw s q g) = (t_X6_clearBlock_l2 E n p1 p2 s).map (zem q g) := by
  intro n
  induction n with
  | zero => intros; rfl
  | succ n ih =>
    intro p1 p2 s
    unfold f_X6_clearBlock_l2 t_X6_clearBlock_l2
    refine tb6 ?_ ?_
    · exact ts_X6_clearBlock_l30 E q g E.1 _ _  _
    · refine tb1 (tw_gR_0 _ q g) ?_
      refine tb4 (tw_sL _ q g (by decide) _ _ ) fun s4_ => ?_
      exact ih _ _  _
def t_X6_clearBlock_b0 (E : zE) (p1 : Int32) (s : twS) : Option (Unit × twS) :=
  t_X6_clearBlock_l2 E E.1 p1 (0 : Int32) s
theorem ts_X6_clearBlock_b0 (E : zE) (q : Nat) (g : zH) (p1 : Int32) (s : twS) : f_X6_clearBlock_b0 E q p1 (tw s q g) = (t_X6_clearBlock_b0 E p1 s).map (zem q g) := by
  unfold f_X6_clearBlock_b0 t_X6_clearBlock_b0
  exact ts_X6_clearBlock_l2 E q g E.1 _ _  _
def t_X6_clearBlock (E : zE) (p1 : Int32) (s : twS) : Option (Unit × twS) :=
  t_X6_clearBlock_b0 E p1 s
theorem ts_X6_clearBlock (E : zE) (q : Nat) (g : zH) (p1 : Int32) (s : twS) : f_X6_clearBlock E q p1 (tw s q g) = (t_X6_clearBlock E p1 s).map (zem q g) := by
  unfold f_X6_clearBlock t_X6_clearBlock
  exact ts_X6_clearBlock_b0 E q g  _  _
def t_X6_thrown_b0 (E : zE) (s : twS) : Option (Int32 × twS) :=
  some ((tSc s 2), s)
theorem ts_X6_thrown_b0 (E : zE) (q : Nat) (g : zH) (s : twS) : f_X6_thrown_b0 E q (tw s q g) = (t_X6_thrown_b0 E  s).map (zem q g) := by
  unfold f_X6_thrown_b0 t_X6_thrown_b0
  refine tb1 (tw_gI_2 _ q g) ?_
  rfl
def t_X6_thrown (E : zE) (s : twS) : Option (Int32 × twS) :=
  t_X6_thrown_b0 E s
theorem ts_X6_thrown (E : zE) (q : Nat) (g : zH) (s : twS) : f_X6_thrown E q (tw s q g) = (t_X6_thrown E  s).map (zem q g) := by
  unfold f_X6_thrown t_X6_thrown
  exact ts_X6_thrown_b0 E q g   _
def t_X6_inRange_b18 (E : zE) (s0 : Int32) (s : twS) : Option (Int32 × twS) :=
  (zgd .boolean s0).bind fun _ =>
  some (s0, s)
theorem ts_X6_inRange_b18 (E : zE) (q : Nat) (g : zH) (s0 : Int32) (s : twS) : f_X6_inRange_b18 E s0 (tw s q g) = (t_X6_inRange_b18 E s0 s).map (zem q g) := by
  unfold f_X6_inRange_b18 t_X6_inRange_b18
  refine tb2 rfl fun _ => ?_
  rfl
def t_X6_inRange_b17 (E : zE) (s : twS) : Option (Int32 × twS) :=
  t_X6_inRange_b18 E (0 : Int32) s
theorem ts_X6_inRange_b17 (E : zE) (q : Nat) (g : zH) (s : twS) : f_X6_inRange_b17 E  (tw s q g) = (t_X6_inRange_b17 E  s).map (zem q g) := by
  unfold f_X6_inRange_b17 t_X6_inRange_b17
  exact ts_X6_inRange_b18 E q g  _  _
def t_X6_inRange_b0 (E : zE) (p0 : Int64) (p2 : Int64) (p4 : Int64) (s : twS) : Option (Int32 × twS) :=
  if p0 < p2 then (
    t_X6_inRange_b17 E s
  ) else (
    if p4 < p0 then (
      t_X6_inRange_b17 E s
    ) else (
      t_X6_inRange_b18 E (1 : Int32) s
    )
  )
theorem ts_X6_inRange_b0 (E : zE) (q : Nat) (g : zH) (p0 : Int64) (p2 : Int64) (p4 : Int64) (s : twS) : f_X6_inRange_b0 E p0 p2 p4 (tw s q g) = (t_X6_inRange_b0 E p0 p2 p4 s).map (zem q g) := by
  unfold f_X6_inRange_b0 t_X6_inRange_b0
  refine tb6 ?_ ?_
  · exact ts_X6_inRange_b17 E q g   _
  · refine tb6 ?_ ?_
    · exact ts_X6_inRange_b17 E q g   _
    · exact ts_X6_inRange_b18 E q g  _  _
def t_X6_inRange (E : zE) (p0 : Int64) (p2 : Int64) (p4 : Int64) (s : twS) : Option (Int32 × twS) :=
  t_X6_inRange_b0 E p0 p2 p4 s
theorem ts_X6_inRange (E : zE) (q : Nat) (g : zH) (p0 : Int64) (p2 : Int64) (p4 : Int64) (s : twS) : f_X6_inRange E p0 p2 p4 (tw s q g) = (t_X6_inRange E p0 p2 p4 s).map (zem q g) := by
  unfold f_X6_inRange t_X6_inRange
  exact ts_X6_inRange_b0 E q g  _ _ _  _
def t_X6_copyBlock_l2 (E : zE) : Nat → Int32 → Int32 → Int32 → twS → Option (Unit × twS)
  | 0, _, _, _, _ => none
  | n + 1, p1, p2, p3, s =>
    if (5054 : Int32) ≤ p3 then (
      some ((), s)
    ) else (
      (tdL s 1 (((5054 : Int32) * p1) + p3)).bind fun x6 =>
      (tsL s 1 (((5054 : Int32) * p2) + p3) x6).bind fun s8_ =>
      t_X6_copyBlock_l2 E n p1 p2 (p3 + 1) s8_
    )
theorem ts_X6_copyBlock_l2 (E : zE) (q : Nat) (g : zH) : ∀ (n : Nat) (p1 : Int32) (p2 : Int32) (p3 : Int32) (s : twS), f_X6_copyBlock_l2 E n q p1 p2 p3 (tw s q g) = (t_X6_copyBlock_l2 E n p1 p2 p3 s).map (zem q g) := by
  intro n
  induction n with
  | zero => intros; rfl
  | succ n ih =>
    intro p1 p2 p3 s
    unfold f_X6_copyBlock_l2 t_X6_copyBlock_l2
    refine tb6 ?_ ?_
    · rfl
    · refine tb1 (tw_gR_0 _ q g) ?_
      refine tb1 (tw_gR_0 _ q g) ?_
      refine tb2 (tw_dL _ q g (by decide) _ ) fun x6 => ?_
      refine tb4 (tw_sL _ q g (by decide) _ _ ) fun s8_ => ?_
      exact ih _ _ _  _
def t_X6_copyBlock_b0 (E : zE) (p1 : Int32) (p2 : Int32) (s : twS) : Option (Unit × twS) :=
  t_X6_copyBlock_l2 E E.1 p1 p2 (0 : Int32) s
theorem ts_X6_copyBlock_b0 (E : zE) (q : Nat) (g : zH) (p1 : Int32) (p2 : Int32) (s : twS) : f_X6_copyBlock_b0 E q p1 p2 (tw s q g) = (t_X6_copyBlock_b0 E p1 p2 s).map (zem q g) := by
  unfold f_X6_copyBlock_b0 t_X6_copyBlock_b0
  exact ts_X6_copyBlock_l2 E q g E.1 _ _ _  _
def t_X6_copyBlock (E : zE) (p1 : Int32) (p2 : Int32) (s : twS) : Option (Unit × twS) :=
  t_X6_copyBlock_b0 E p1 p2 s
theorem ts_X6_copyBlock (E : zE) (q : Nat) (g : zH) (p1 : Int32) (p2 : Int32) (s : twS) : f_X6_copyBlock E q p1 p2 (tw s q g) = (t_X6_copyBlock E p1 p2 s).map (zem q g) := by
  unfold f_X6_copyBlock t_X6_copyBlock
  exact ts_X6_copyBlock_b0 E q g  _ _  _
def t_X6_saveSnapshot_b0 (E : zE) (p1 : Int32) (s : twS) : Option (Int32 × twS) :=
  bnd2 (t_X6_inRange E (p1.toInt64) (0 : Int64) (1 : Int64) (uSc s 2 (0 : Int32))) fun x5 s3_ =>
  if x5 = 0 then (
    some ((0 : Int32), s3_)
  ) else (
    bnd2 (t_X6_copyBlock E (0 : Int32) ((1 : Int32) + p1) s3_) fun x10 s8_ =>
    (tsI s8_ 2 3 p1 (1 : Int32)).bind fun s13_ =>
    some ((1 : Int32), s13_)
  )
theorem ts_X6_saveSnapshot_b0 (E : zE) (q : Nat) (g : zH) (p1 : Int32) (s : twS) : f_X6_saveSnapshot_b0 E q p1 (tw s q g) = (t_X6_saveSnapshot_b0 E p1 s).map (zem q g) := by
  unfold f_X6_saveSnapshot_b0 t_X6_saveSnapshot_b0
  refine tb1 (tw_pI_2 _ q g _) ?_
  refine tb5 (ts_X6_inRange E q g  _ _ _  _) fun x5 s3_ => ?_
  refine tb6 ?_ ?_
  · rfl
  · refine tb1 (tw_cko _ q g) ?_
    refine tb5 (ts_X6_copyBlock E q g  _ _  _) fun x10 s8_ => ?_
    refine tb1 (tw_gR_1 _ q g) ?_
    refine tb4 (tw_sI _ q g (by decide) _ _ _ ) fun s13_ => ?_
    rfl
def t_X6_saveSnapshot (E : zE) (p1 : Int32) (s : twS) : Option (Int32 × twS) :=
  t_X6_saveSnapshot_b0 E p1 s
theorem ts_X6_saveSnapshot (E : zE) (q : Nat) (g : zH) (p1 : Int32) (s : twS) : f_X6_saveSnapshot E q p1 (tw s q g) = (t_X6_saveSnapshot E p1 s).map (zem q g) := by
  unfold f_X6_saveSnapshot t_X6_saveSnapshot
  exact ts_X6_saveSnapshot_b0 E q g  _  _
def t_X6_restoreSnapshot_b24 (E : zE) (s : twS) : Option (Int32 × twS) :=
  some ((0 : Int32), s)
theorem ts_X6_restoreSnapshot_b24 (E : zE) (q : Nat) (g : zH) (s : twS) : f_X6_restoreSnapshot_b24 E  (tw s q g) = (t_X6_restoreSnapshot_b24 E  s).map (zem q g) := by
  unfold f_X6_restoreSnapshot_b24 t_X6_restoreSnapshot_b24
  rfl
def t_X6_restoreSnapshot_b0 (E : zE) (p1 : Int32) (s : twS) : Option (Int32 × twS) :=
  bnd2 (t_X6_inRange E (p1.toInt64) (0 : Int64) (1 : Int64) (uSc s 2 (0 : Int32))) fun x5 s3_ =>
  if x5 = 0 then (
    t_X6_restoreSnapshot_b24 E s3_
  ) else (
    (tdI s3_ 2 3 p1).bind fun x9 =>
    if x9 = 0 then (
      t_X6_restoreSnapshot_b24 E s3_
    ) else (
      bnd2 (t_X6_copyBlock E ((1 : Int32) + p1) (0 : Int32) s3_) fun x15 s13_ =>
      some ((1 : Int32), s13_)
    )
  )
theorem ts_X6_restoreSnapshot_b0 (E : zE) (q : Nat) (g : zH) (p1 : Int32) (s : twS) : f_X6_restoreSnapshot_b0 E q p1 (tw s q g) = (t_X6_restoreSnapshot_b0 E p1 s).map (zem q g) := by
  unfold f_X6_restoreSnapshot_b0 t_X6_restoreSnapshot_b0
  refine tb1 (tw_pI_2 _ q g _) ?_
  refine tb5 (ts_X6_inRange E q g  _ _ _  _) fun x5 s3_ => ?_
  refine tb6 ?_ ?_
  · exact ts_X6_restoreSnapshot_b24 E q g   _
  · refine tb1 (tw_gR_1 _ q g) ?_
    refine tb2 (tw_dI _ q g (by decide) _ _ ) fun x9 => ?_
    refine tb6 ?_ ?_
    · exact ts_X6_restoreSnapshot_b24 E q g   _
    · refine tb1 (tw_cko _ q g) ?_
      refine tb5 (ts_X6_copyBlock E q g  _ _  _) fun x15 s13_ => ?_
      rfl
def t_X6_restoreSnapshot (E : zE) (p1 : Int32) (s : twS) : Option (Int32 × twS) :=
  t_X6_restoreSnapshot_b0 E p1 s
theorem ts_X6_restoreSnapshot (E : zE) (q : Nat) (g : zH) (p1 : Int32) (s : twS) : f_X6_restoreSnapshot E q p1 (tw s q g) = (t_X6_restoreSnapshot E p1 s).map (zem q g) := by
  unfold f_X6_restoreSnapshot t_X6_restoreSnapshot
  exact ts_X6_restoreSnapshot_b0 E q g  _  _
def t_X6_count_b0 (E : zE) (p1 : Int32) (s : twS) : Option (Int32 × twS) :=
  if p1 = 0 then (
    (tdL (uSc s 2 (0 : Int32)) 1 (1 : Int32)).bind fun x6 =>
    some ((x6.toInt32), (uSc s 2 (0 : Int32)))
  ) else (
    if p1 = 1 then (
      (tdL (uSc s 2 (0 : Int32)) 1 (2 : Int32)).bind fun x11 =>
      some ((x11.toInt32), (uSc s 2 (0 : Int32)))
    ) else (
      if p1 = 2 then (
        (tdL (uSc s 2 (0 : Int32)) 1 (3 : Int32)).bind fun x16 =>
        some ((x16.toInt32), (uSc s 2 (0 : Int32)))
      ) else (
        if p1 = 3 then (
          some (((tSc (uSc s 2 (0 : Int32)) 19) - (tSc (uSc s 2 (0 : Int32)) 20)), (uSc s 2 (0 : Int32)))
        ) else (
          some ((-1 : Int32), (uSc s 2 (0 : Int32)))
        )
      )
    )
  )
theorem ts_X6_count_b0 (E : zE) (q : Nat) (g : zH) (p1 : Int32) (s : twS) : f_X6_count_b0 E q p1 (tw s q g) = (t_X6_count_b0 E p1 s).map (zem q g) := by
  unfold f_X6_count_b0 t_X6_count_b0
  refine tb1 (tw_pI_2 _ q g _) ?_
  refine tb6 ?_ ?_
  · refine tb1 (tw_gR_0 _ q g) ?_
    refine tb2 (tw_dL _ q g (by decide) _ ) fun x6 => ?_
    rfl
  · refine tb6 ?_ ?_
    · refine tb1 (tw_gR_0 _ q g) ?_
      refine tb2 (tw_dL _ q g (by decide) _ ) fun x11 => ?_
      rfl
    · refine tb6 ?_ ?_
      · refine tb1 (tw_gR_0 _ q g) ?_
        refine tb2 (tw_dL _ q g (by decide) _ ) fun x16 => ?_
        rfl
      · refine tb6 ?_ ?_
        · refine tb1 (tw_gI_19 _ q g) ?_
          refine tb1 (tw_gI_20 _ q g) ?_
          rfl
        · rfl
def t_X6_count (E : zE) (p1 : Int32) (s : twS) : Option (Int32 × twS) :=
  t_X6_count_b0 E p1 s
theorem ts_X6_count (E : zE) (q : Nat) (g : zH) (p1 : Int32) (s : twS) : f_X6_count E q p1 (tw s q g) = (t_X6_count E p1 s).map (zem q g) := by
  unfold f_X6_count t_X6_count
  exact ts_X6_count_b0 E q g  _  _
def t_X6_month_b0 (E : zE) (s : twS) : Option (Int32 × twS) :=
  (tdL (uSc s 2 (0 : Int32)) 1 (0 : Int32)).bind fun x5 =>
  some ((x5.toInt32), (uSc s 2 (0 : Int32)))
theorem ts_X6_month_b0 (E : zE) (q : Nat) (g : zH) (s : twS) : f_X6_month_b0 E q (tw s q g) = (t_X6_month_b0 E  s).map (zem q g) := by
  unfold f_X6_month_b0 t_X6_month_b0
  refine tb1 (tw_pI_2 _ q g _) ?_
  refine tb1 (tw_gR_0 _ q g) ?_
  refine tb2 (tw_dL _ q g (by decide) _ ) fun x5 => ?_
  rfl
def t_X6_month (E : zE) (s : twS) : Option (Int32 × twS) :=
  t_X6_month_b0 E s
theorem ts_X6_month (E : zE) (q : Nat) (g : zH) (s : twS) : f_X6_month E q (tw s q g) = (t_X6_month E  s).map (zem q g) := by
  unfold f_X6_month t_X6_month
  exact ts_X6_month_b0 E q g   _
def t_X6_isCell_b29 (E : zE) (s0 : Int32) (s : twS) : Option (Int32 × twS) :=
  (zgd .boolean s0).bind fun _ =>
  some (s0, s)
theorem ts_X6_isCell_b29 (E : zE) (q : Nat) (g : zH) (s0 : Int32) (s : twS) : f_X6_isCell_b29 E s0 (tw s q g) = (t_X6_isCell_b29 E s0 s).map (zem q g) := by
  unfold f_X6_isCell_b29 t_X6_isCell_b29
  refine tb2 rfl fun _ => ?_
  rfl
def t_X6_isCell_b28 (E : zE) (s : twS) : Option (Int32 × twS) :=
  t_X6_isCell_b29 E (0 : Int32) s
theorem ts_X6_isCell_b28 (E : zE) (q : Nat) (g : zH) (s : twS) : f_X6_isCell_b28 E  (tw s q g) = (t_X6_isCell_b28 E  s).map (zem q g) := by
  unfold f_X6_isCell_b28 t_X6_isCell_b28
  exact ts_X6_isCell_b29 E q g  _  _
def t_X6_isCell_b0 (E : zE) (p0 : Int32) (p1 : Int32) (s : twS) : Option (Int32 × twS) :=
  bnd2 (t_X6_inRange E (p0.toInt64) (0 : Int64) (29 : Int64) s) fun x3 s1_ =>
  if x3 = 0 then (
    t_X6_isCell_b28 E s1_
  ) else (
    bnd2 (t_X6_inRange E (p1.toInt64) (0 : Int64) (29 : Int64) s1_) fun x7 s5_ =>
    if x7 = 0 then (
      t_X6_isCell_b28 E s5_
    ) else (
      t_X6_isCell_b29 E (1 : Int32) s5_
    )
  )
theorem ts_X6_isCell_b0 (E : zE) (q : Nat) (g : zH) (p0 : Int32) (p1 : Int32) (s : twS) : f_X6_isCell_b0 E p0 p1 (tw s q g) = (t_X6_isCell_b0 E p0 p1 s).map (zem q g) := by
  unfold f_X6_isCell_b0 t_X6_isCell_b0
  refine tb5 (ts_X6_inRange E q g  _ _ _  _) fun x3 s1_ => ?_
  refine tb6 ?_ ?_
  · exact ts_X6_isCell_b28 E q g   _
  · refine tb5 (ts_X6_inRange E q g  _ _ _  _) fun x7 s5_ => ?_
    refine tb6 ?_ ?_
    · exact ts_X6_isCell_b28 E q g   _
    · exact ts_X6_isCell_b29 E q g  _  _
def t_X6_isCell (E : zE) (p0 : Int32) (p1 : Int32) (s : twS) : Option (Int32 × twS) :=
  t_X6_isCell_b0 E p0 p1 s
theorem ts_X6_isCell (E : zE) (q : Nat) (g : zH) (p0 : Int32) (p1 : Int32) (s : twS) : f_X6_isCell E p0 p1 (tw s q g) = (t_X6_isCell E p0 p1 s).map (zem q g) := by
  unfold f_X6_isCell t_X6_isCell
  exact ts_X6_isCell_b0 E q g  _ _  _
def t_X6_throwsIf_b9 (E : zE) (p1 : Int32) (s : twS) : Option (Int32 × twS) :=
  (zgd .boolean p1).bind fun _ =>
  some (p1, s)
theorem ts_X6_throwsIf_b9 (E : zE) (q : Nat) (g : zH) (p1 : Int32) (s : twS) : f_X6_throwsIf_b9 E p1 (tw s q g) = (t_X6_throwsIf_b9 E p1 s).map (zem q g) := by
  unfold f_X6_throwsIf_b9 t_X6_throwsIf_b9
  refine tb2 rfl fun _ => ?_
  rfl
def t_X6_throwsIf_b0 (E : zE) (p1 : Int32) (p2 : Int32) (s : twS) : Option (Int32 × twS) :=
  if p1 = 0 then (
    t_X6_throwsIf_b9 E p1 s
  ) else (
    t_X6_throwsIf_b9 E p1 (uSc s 2 p2)
  )
theorem ts_X6_throwsIf_b0 (E : zE) (q : Nat) (g : zH) (p1 : Int32) (p2 : Int32) (s : twS) : f_X6_throwsIf_b0 E q p1 p2 (tw s q g) = (t_X6_throwsIf_b0 E p1 p2 s).map (zem q g) := by
  unfold f_X6_throwsIf_b0 t_X6_throwsIf_b0
  refine tb6 ?_ ?_
  · exact ts_X6_throwsIf_b9 E q g  _  _
  · refine tb1 (tw_pI_2 _ q g _) ?_
    exact ts_X6_throwsIf_b9 E q g  _  _
def t_X6_throwsIf (E : zE) (p1 : Int32) (p2 : Int32) (s : twS) : Option (Int32 × twS) :=
  t_X6_throwsIf_b0 E p1 p2 s
theorem ts_X6_throwsIf (E : zE) (q : Nat) (g : zH) (p1 : Int32) (p2 : Int32) (s : twS) : f_X6_throwsIf E q p1 p2 (tw s q g) = (t_X6_throwsIf E p1 p2 s).map (zem q g) := by
  unfold f_X6_throwsIf t_X6_throwsIf
  exact ts_X6_throwsIf_b0 E q g  _ _  _
def t_X6_ownerOf_b0 (E : zE) (p1 : Int32) (p2 : Int32) (s : twS) : Option (Int32 × twS) :=
  (tdL s 1 (((250 : Int32) + ((30 : Int32) * p2)) + p1)).bind fun x3 =>
  some ((x3.toInt32), s)
theorem ts_X6_ownerOf_b0 (E : zE) (q : Nat) (g : zH) (p1 : Int32) (p2 : Int32) (s : twS) : f_X6_ownerOf_b0 E q p1 p2 (tw s q g) = (t_X6_ownerOf_b0 E p1 p2 s).map (zem q g) := by
  unfold f_X6_ownerOf_b0 t_X6_ownerOf_b0
  refine tb1 (tw_gR_0 _ q g) ?_
  refine tb2 (tw_dL _ q g (by decide) _ ) fun x3 => ?_
  rfl
def t_X6_ownerOf (E : zE) (p1 : Int32) (p2 : Int32) (s : twS) : Option (Int32 × twS) :=
  t_X6_ownerOf_b0 E p1 p2 s
theorem ts_X6_ownerOf (E : zE) (q : Nat) (g : zH) (p1 : Int32) (p2 : Int32) (s : twS) : f_X6_ownerOf E q p1 p2 (tw s q g) = (t_X6_ownerOf E p1 p2 s).map (zem q g) := by
  unfold f_X6_ownerOf t_X6_ownerOf
  exact ts_X6_ownerOf_b0 E q g  _ _  _
def t_X6_owner_b36 (E : zE) (s0 : Int32) (s : twS) : Option (Int32 × twS) :=
  some (s0, s)
theorem ts_X6_owner_b36 (E : zE) (q : Nat) (g : zH) (s0 : Int32) (s : twS) : f_X6_owner_b36 E s0 (tw s q g) = (t_X6_owner_b36 E s0 s).map (zem q g) := by
  unfold f_X6_owner_b36 t_X6_owner_b36
  rfl
def t_X6_owner_b19 (E : zE) (p1 : Int32) (p2 : Int32) (s1 : Int32) (s : twS) : Option (Int32 × twS) :=
  bnd2 (t_X6_throwsIf E s1 (1 : Int32) s) fun x4 s2_ =>
  if x4 = 0 then (
    bnd2 (t_X6_ownerOf E p1 p2 s2_) fun x9 s7_ =>
    t_X6_owner_b36 E x9 s7_
  ) else (
    t_X6_owner_b36 E (0 : Int32) s2_
  )
theorem ts_X6_owner_b19 (E : zE) (q : Nat) (g : zH) (p1 : Int32) (p2 : Int32) (s1 : Int32) (s : twS) : f_X6_owner_b19 E q p1 p2 q s1 (tw s q g) = (t_X6_owner_b19 E p1 p2 s1 s).map (zem q g) := by
  unfold f_X6_owner_b19 t_X6_owner_b19
  refine tb1 (tw_cko _ q g) ?_
  refine tb5 (ts_X6_throwsIf E q g  _ _  _) fun x4 s2_ => ?_
  refine tb6 ?_ ?_
  · refine tb1 (tw_cko _ q g) ?_
    refine tb5 (ts_X6_ownerOf E q g  _ _  _) fun x9 s7_ => ?_
    exact ts_X6_owner_b36 E q g  _  _
  · exact ts_X6_owner_b36 E q g  _  _
def t_X6_owner_b0 (E : zE) (p1 : Int32) (p2 : Int32) (s : twS) : Option (Int32 × twS) :=
  bnd2 (t_X6_isCell E p1 p2 (uSc s 2 (0 : Int32))) fun x5 s3_ =>
  if x5 = 0 then (
    t_X6_owner_b19 E p1 p2 (1 : Int32) s3_
  ) else (
    t_X6_owner_b19 E p1 p2 (0 : Int32) s3_
  )
theorem ts_X6_owner_b0 (E : zE) (q : Nat) (g : zH) (p1 : Int32) (p2 : Int32) (s : twS) : f_X6_owner_b0 E q p1 p2 (tw s q g) = (t_X6_owner_b0 E p1 p2 s).map (zem q g) := by
  unfold f_X6_owner_b0 t_X6_owner_b0
  refine tb1 (tw_pI_2 _ q g _) ?_
  refine tb5 (ts_X6_isCell E q g  _ _  _) fun x5 s3_ => ?_
  refine tb6 ?_ ?_
  · exact ts_X6_owner_b19 E q g  _ _ _  _
  · exact ts_X6_owner_b19 E q g  _ _ _  _
def t_X6_owner (E : zE) (p1 : Int32) (p2 : Int32) (s : twS) : Option (Int32 × twS) :=
  t_X6_owner_b0 E p1 p2 s
theorem ts_X6_owner (E : zE) (q : Nat) (g : zH) (p1 : Int32) (p2 : Int32) (s : twS) : f_X6_owner E q p1 p2 (tw s q g) = (t_X6_owner E p1 p2 s).map (zem q g) := by
  unfold f_X6_owner t_X6_owner
  exact ts_X6_owner_b0 E q g  _ _  _
def t_X6_isFranchisee_b0 (E : zE) (p1 : Int32) (s : twS) : Option (Int32 × twS) :=
  (tdL s 1 (2 : Int32)).bind fun x3 =>
  bnd2 (t_X6_inRange E (p1.toInt64) (0 : Int64) (x3 - (1 : Int64)) s) fun x7 s5_ =>
  (zgd .boolean x7).bind fun _ =>
  some (x7, s5_)
theorem ts_X6_isFranchisee_b0 (E : zE) (q : Nat) (g : zH) (p1 : Int32) (s : twS) : f_X6_isFranchisee_b0 E q p1 (tw s q g) = (t_X6_isFranchisee_b0 E p1 s).map (zem q g) := by
  unfold f_X6_isFranchisee_b0 t_X6_isFranchisee_b0
  refine tb1 (tw_gR_0 _ q g) ?_
  refine tb2 (tw_dL _ q g (by decide) _ ) fun x3 => ?_
  refine tb5 (ts_X6_inRange E q g  _ _ _  _) fun x7 s5_ => ?_
  refine tb2 rfl fun _ => ?_
  rfl
def t_X6_isFranchisee (E : zE) (p1 : Int32) (s : twS) : Option (Int32 × twS) :=
  t_X6_isFranchisee_b0 E p1 s
theorem ts_X6_isFranchisee (E : zE) (q : Nat) (g : zH) (p1 : Int32) (s : twS) : f_X6_isFranchisee E q p1 (tw s q g) = (t_X6_isFranchisee E p1 s).map (zem q g) := by
  unfold f_X6_isFranchisee t_X6_isFranchisee
  exact ts_X6_isFranchisee_b0 E q g  _  _
def t_X6_areaOf_b33 (E : zE) (k4 : Int32 → Int32 → Int32 → twS → Option (Int32 × twS)) (p1 : Int32) (p3 : Int32) (s0 : Int32) (s1 : Int32) (s : twS) : Option (Int32 × twS) :=
  k4 p1 (s0 + s1) (p3 + 1) s
theorem ts_X6_areaOf_b33 (E : zE) (q : Nat) (g : zH) {K4 : Nat → Int32 → Int32 → Int32 → zH → Option (Int32 × zH)} {k4 : Int32 → Int32 → Int32 → twS → Option (Int32 × twS)} (hk4 : ∀ (p1 : Int32) (p2 : Int32) (p3 : Int32) (s : twS), K4 q p1 p2 p3 (tw s q g) = (k4 p1 p2 p3 s).map (zem q g)) (p1 : Int32) (p3 : Int32) (s0 : Int32) (s1 : Int32) (s : twS) : f_X6_areaOf_b33 E K4 q p1 p3 s0 s1 (tw s q g) = (t_X6_areaOf_b33 E k4 p1 p3 s0 s1 s).map (zem q g) := by
  unfold f_X6_areaOf_b33 t_X6_areaOf_b33
  exact hk4 _ _ _  _
def t_X6_areaOf_l4 (E : zE) : Nat → Int32 → Int32 → Int32 → twS → Option (Int32 × twS)
  | 0, _, _, _, _ => none
  | n + 1, p1, p2, p3, s =>
    if (900 : Int32) ≤ p3 then (
      some (p2, s)
    ) else (
      (tdL s 1 ((250 : Int32) + p3)).bind fun x4 =>
      if x4 = (p1.toInt64) then (
        t_X6_areaOf_b33 E (t_X6_areaOf_l4 E n) p1 p3 p2 (1 : Int32) s
      ) else (
        t_X6_areaOf_b33 E (t_X6_areaOf_l4 E n) p1 p3 p2 (0 : Int32) s
      )
    )
theorem ts_X6_areaOf_l4 (E : zE) (q : Nat) (g : zH) : ∀ (n : Nat) (p1 : Int32) (p2 : Int32) (p3 : Int32) (s : twS), f_X6_areaOf_l4 E n q p1 p2 p3 (tw s q g) = (t_X6_areaOf_l4 E n p1 p2 p3 s).map (zem q g) := by
  intro n
  induction n with
  | zero => intros; rfl
  | succ n ih =>
    intro p1 p2 p3 s
    unfold f_X6_areaOf_l4 t_X6_areaOf_l4
    refine tb6 ?_ ?_
    · rfl
    · refine tb1 (tw_gR_0 _ q g) ?_
      refine tb2 (tw_dL _ q g (by decide) _ ) fun x4 => ?_
      refine tb6 ?_ ?_
      · exact ts_X6_areaOf_b33 E q g ih  _ _ _ _  _
      · exact ts_X6_areaOf_b33 E q g ih  _ _ _ _  _
def t_X6_areaOf_b0 (E : zE) (p1 : Int32) (s : twS) : Option (Int32 × twS) :=
  t_X6_areaOf_l4 E E.1 p1 (0 : Int32) (0 : Int32) s
theorem ts_X6_areaOf_b0 (E : zE) (q : Nat) (g : zH) (p1 : Int32) (s : twS) : f_X6_areaOf_b0 E q p1 (tw s q g) = (t_X6_areaOf_b0 E p1 s).map (zem q g) := by
  unfold f_X6_areaOf_b0 t_X6_areaOf_b0
  exact ts_X6_areaOf_l4 E q g E.1 _ _ _  _
def t_X6_areaOf (E : zE) (p1 : Int32) (s : twS) : Option (Int32 × twS) :=
  t_X6_areaOf_b0 E p1 s
theorem ts_X6_areaOf (E : zE) (q : Nat) (g : zH) (p1 : Int32) (s : twS) : f_X6_areaOf E q p1 (tw s q g) = (t_X6_areaOf E p1 s).map (zem q g) := by
  unfold f_X6_areaOf t_X6_areaOf
  exact ts_X6_areaOf_b0 E q g  _  _
def t_X6_area_b35 (E : zE) (s0 : Int32) (s : twS) : Option (Int32 × twS) :=
  some (s0, s)
theorem ts_X6_area_b35 (E : zE) (q : Nat) (g : zH) (s0 : Int32) (s : twS) : f_X6_area_b35 E s0 (tw s q g) = (t_X6_area_b35 E s0 s).map (zem q g) := by
  unfold f_X6_area_b35 t_X6_area_b35
  rfl
def t_X6_area_b19 (E : zE) (p1 : Int32) (s1 : Int32) (s : twS) : Option (Int32 × twS) :=
  bnd2 (t_X6_throwsIf E s1 (1 : Int32) s) fun x4 s2_ =>
  if x4 = 0 then (
    bnd2 (t_X6_areaOf E p1 s2_) fun x9 s7_ =>
    t_X6_area_b35 E x9 s7_
  ) else (
    t_X6_area_b35 E (0 : Int32) s2_
  )
theorem ts_X6_area_b19 (E : zE) (q : Nat) (g : zH) (p1 : Int32) (s1 : Int32) (s : twS) : f_X6_area_b19 E q p1 q s1 (tw s q g) = (t_X6_area_b19 E p1 s1 s).map (zem q g) := by
  unfold f_X6_area_b19 t_X6_area_b19
  refine tb1 (tw_cko _ q g) ?_
  refine tb5 (ts_X6_throwsIf E q g  _ _  _) fun x4 s2_ => ?_
  refine tb6 ?_ ?_
  · refine tb1 (tw_cko _ q g) ?_
    refine tb5 (ts_X6_areaOf E q g  _  _) fun x9 s7_ => ?_
    exact ts_X6_area_b35 E q g  _  _
  · exact ts_X6_area_b35 E q g  _  _
def t_X6_area_b0 (E : zE) (p1 : Int32) (s : twS) : Option (Int32 × twS) :=
  bnd2 (t_X6_isFranchisee E p1 (uSc s 2 (0 : Int32))) fun x6 s4_ =>
  if x6 = 0 then (
    t_X6_area_b19 E p1 (1 : Int32) s4_
  ) else (
    t_X6_area_b19 E p1 (0 : Int32) s4_
  )
theorem ts_X6_area_b0 (E : zE) (q : Nat) (g : zH) (p1 : Int32) (s : twS) : f_X6_area_b0 E q p1 (tw s q g) = (t_X6_area_b0 E p1 s).map (zem q g) := by
  unfold f_X6_area_b0 t_X6_area_b0
  refine tb1 (tw_pI_2 _ q g _) ?_
  refine tb1 (tw_cko _ q g) ?_
  refine tb5 (ts_X6_isFranchisee E q g  _  _) fun x6 s4_ => ?_
  refine tb6 ?_ ?_
  · exact ts_X6_area_b19 E q g  _ _  _
  · exact ts_X6_area_b19 E q g  _ _  _
def t_X6_area (E : zE) (p1 : Int32) (s : twS) : Option (Int32 × twS) :=
  t_X6_area_b0 E p1 s
theorem ts_X6_area (E : zE) (q : Nat) (g : zH) (p1 : Int32) (s : twS) : f_X6_area E q p1 (tw s q g) = (t_X6_area E p1 s).map (zem q g) := by
  unfold f_X6_area t_X6_area
  exact ts_X6_area_b0 E q g  _  _
def t_X6_owns_b23 (E : zE) (s0 : Int32) (s : twS) : Option (Int32 × twS) :=
  (zgd .boolean s0).bind fun _ =>
  some (s0, s)
theorem ts_X6_owns_b23 (E : zE) (q : Nat) (g : zH) (s0 : Int32) (s : twS) : f_X6_owns_b23 E s0 (tw s q g) = (t_X6_owns_b23 E s0 s).map (zem q g) := by
  unfold f_X6_owns_b23 t_X6_owns_b23
  refine tb2 rfl fun _ => ?_
  rfl
def t_X6_owns_b22 (E : zE) (s : twS) : Option (Int32 × twS) :=
  t_X6_owns_b23 E (0 : Int32) s
theorem ts_X6_owns_b22 (E : zE) (q : Nat) (g : zH) (s : twS) : f_X6_owns_b22 E  (tw s q g) = (t_X6_owns_b22 E  s).map (zem q g) := by
  unfold f_X6_owns_b22 t_X6_owns_b22
  exact ts_X6_owns_b23 E q g  _  _
def t_X6_owns_b0 (E : zE) (p1 : Int32) (p2 : Int32) (p3 : Int32) (s : twS) : Option (Int32 × twS) :=
  bnd2 (t_X6_isCell E p2 p3 s) fun x3 s1_ =>
  if x3 = 0 then (
    t_X6_owns_b22 E s1_
  ) else (
    bnd2 (t_X6_ownerOf E p2 p3 s1_) fun x8 s6_ =>
    if x8 = p1 then (
      t_X6_owns_b23 E (1 : Int32) s6_
    ) else (
      t_X6_owns_b22 E s6_
    )
  )
theorem ts_X6_owns_b0 (E : zE) (q : Nat) (g : zH) (p1 : Int32) (p2 : Int32) (p3 : Int32) (s : twS) : f_X6_owns_b0 E q p1 p2 p3 (tw s q g) = (t_X6_owns_b0 E p1 p2 p3 s).map (zem q g) := by
  unfold f_X6_owns_b0 t_X6_owns_b0
  refine tb5 (ts_X6_isCell E q g  _ _  _) fun x3 s1_ => ?_
  refine tb6 ?_ ?_
  · exact ts_X6_owns_b22 E q g   _
  · refine tb1 (tw_cko _ q g) ?_
    refine tb5 (ts_X6_ownerOf E q g  _ _  _) fun x8 s6_ => ?_
    refine tb6 ?_ ?_
    · exact ts_X6_owns_b23 E q g  _  _
    · exact ts_X6_owns_b22 E q g   _
def t_X6_owns (E : zE) (p1 : Int32) (p2 : Int32) (p3 : Int32) (s : twS) : Option (Int32 × twS) :=
  t_X6_owns_b0 E p1 p2 p3 s
theorem ts_X6_owns (E : zE) (q : Nat) (g : zH) (p1 : Int32) (p2 : Int32) (p3 : Int32) (s : twS) : f_X6_owns E q p1 p2 p3 (tw s q g) = (t_X6_owns E p1 p2 p3 s).map (zem q g) := by
  unfold f_X6_owns t_X6_owns
  exact ts_X6_owns_b0 E q g  _ _ _  _
def t_X6_neighboursOf_b70 (E : zE) (s0 : Int32) (s1 : Int32) (s : twS) : Option (Int32 × twS) :=
  some ((s0 + s1), s)
theorem ts_X6_neighboursOf_b70 (E : zE) (q : Nat) (g : zH) (s0 : Int32) (s1 : Int32) (s : twS) : f_X6_neighboursOf_b70 E s0 s1 (tw s q g) = (t_X6_neighboursOf_b70 E s0 s1 s).map (zem q g) := by
  unfold f_X6_neighboursOf_b70 t_X6_neighboursOf_b70
  rfl
def t_X6_neighboursOf_b52 (E : zE) (p1 : Int32) (p2 : Int32) (p3 : Int32) (s0 : Int32) (s1 : Int32) (s : twS) : Option (Int32 × twS) :=
  bnd2 (t_X6_owns E p1 p2 (p3 + (1 : Int32)) s) fun x4 s2_ =>
  if x4 = 0 then (
    t_X6_neighboursOf_b70 E (s0 + s1) (0 : Int32) s2_
  ) else (
    t_X6_neighboursOf_b70 E (s0 + s1) (1 : Int32) s2_
  )
theorem ts_X6_neighboursOf_b52 (E : zE) (q : Nat) (g : zH) (p1 : Int32) (p2 : Int32) (p3 : Int32) (s0 : Int32) (s1 : Int32) (s : twS) : f_X6_neighboursOf_b52 E q p1 p2 p3 s0 s1 (tw s q g) = (t_X6_neighboursOf_b52 E p1 p2 p3 s0 s1 s).map (zem q g) := by
  unfold f_X6_neighboursOf_b52 t_X6_neighboursOf_b52
  refine tb1 (tw_cko _ q g) ?_
  refine tb5 (ts_X6_owns E q g  _ _ _  _) fun x4 s2_ => ?_
  refine tb6 ?_ ?_
  · exact ts_X6_neighboursOf_b70 E q g  _ _  _
  · exact ts_X6_neighboursOf_b70 E q g  _ _  _
def t_X6_neighboursOf_b34 (E : zE) (p1 : Int32) (p2 : Int32) (p3 : Int32) (s0 : Int32) (s1 : Int32) (s : twS) : Option (Int32 × twS) :=
  bnd2 (t_X6_owns E p1 p2 (p3 - (1 : Int32)) s) fun x4 s2_ =>
  if x4 = 0 then (
    t_X6_neighboursOf_b52 E p1 p2 p3 (s0 + s1) (0 : Int32) s2_
  ) else (
    t_X6_neighboursOf_b52 E p1 p2 p3 (s0 + s1) (1 : Int32) s2_
  )
theorem ts_X6_neighboursOf_b34 (E : zE) (q : Nat) (g : zH) (p1 : Int32) (p2 : Int32) (p3 : Int32) (s0 : Int32) (s1 : Int32) (s : twS) : f_X6_neighboursOf_b34 E q p1 p2 p3 s0 s1 (tw s q g) = (t_X6_neighboursOf_b34 E p1 p2 p3 s0 s1 s).map (zem q g) := by
  unfold f_X6_neighboursOf_b34 t_X6_neighboursOf_b34
  refine tb1 (tw_cko _ q g) ?_
  refine tb5 (ts_X6_owns E q g  _ _ _  _) fun x4 s2_ => ?_
  refine tb6 ?_ ?_
  · exact ts_X6_neighboursOf_b52 E q g  _ _ _ _ _  _
  · exact ts_X6_neighboursOf_b52 E q g  _ _ _ _ _  _
def t_X6_neighboursOf_b17 (E : zE) (p1 : Int32) (p2 : Int32) (p3 : Int32) (s0 : Int32) (s : twS) : Option (Int32 × twS) :=
  bnd2 (t_X6_owns E p1 (p2 + (1 : Int32)) p3 s) fun x4 s2_ =>
  if x4 = 0 then (
    t_X6_neighboursOf_b34 E p1 p2 p3 s0 (0 : Int32) s2_
  ) else (
    t_X6_neighboursOf_b34 E p1 p2 p3 s0 (1 : Int32) s2_
  )
theorem ts_X6_neighboursOf_b17 (E : zE) (q : Nat) (g : zH) (p1 : Int32) (p2 : Int32) (p3 : Int32) (s0 : Int32) (s : twS) : f_X6_neighboursOf_b17 E q p1 p2 p3 s0 (tw s q g) = (t_X6_neighboursOf_b17 E p1 p2 p3 s0 s).map (zem q g) := by
  unfold f_X6_neighboursOf_b17 t_X6_neighboursOf_b17
  refine tb1 (tw_cko _ q g) ?_
  refine tb5 (ts_X6_owns E q g  _ _ _  _) fun x4 s2_ => ?_
  refine tb6 ?_ ?_
  · exact ts_X6_neighboursOf_b34 E q g  _ _ _ _ _  _
  · exact ts_X6_neighboursOf_b34 E q g  _ _ _ _ _  _
def t_X6_neighboursOf_b0 (E : zE) (p1 : Int32) (p2 : Int32) (p3 : Int32) (s : twS) : Option (Int32 × twS) :=
  bnd2 (t_X6_owns E p1 (p2 - (1 : Int32)) p3 s) fun x4 s2_ =>
  if x4 = 0 then (
    t_X6_neighboursOf_b17 E p1 p2 p3 (0 : Int32) s2_
  ) else (
    t_X6_neighboursOf_b17 E p1 p2 p3 (1 : Int32) s2_
  )
theorem ts_X6_neighboursOf_b0 (E : zE) (q : Nat) (g : zH) (p1 : Int32) (p2 : Int32) (p3 : Int32) (s : twS) : f_X6_neighboursOf_b0 E q p1 p2 p3 (tw s q g) = (t_X6_neighboursOf_b0 E p1 p2 p3 s).map (zem q g) := by
  unfold f_X6_neighboursOf_b0 t_X6_neighboursOf_b0
  refine tb1 (tw_cko _ q g) ?_
  refine tb5 (ts_X6_owns E q g  _ _ _  _) fun x4 s2_ => ?_
  refine tb6 ?_ ?_
  · exact ts_X6_neighboursOf_b17 E q g  _ _ _ _  _
  · exact ts_X6_neighboursOf_b17 E q g  _ _ _ _  _
def t_X6_neighboursOf (E : zE) (p1 : Int32) (p2 : Int32) (p3 : Int32) (s : twS) : Option (Int32 × twS) :=
  t_X6_neighboursOf_b0 E p1 p2 p3 s
theorem ts_X6_neighboursOf (E : zE) (q : Nat) (g : zH) (p1 : Int32) (p2 : Int32) (p3 : Int32) (s : twS) : f_X6_neighboursOf E q p1 p2 p3 (tw s q g) = (t_X6_neighboursOf E p1 p2 p3 s).map (zem q g) := by
  unfold f_X6_neighboursOf t_X6_neighboursOf
  exact ts_X6_neighboursOf_b0 E q g  _ _ _  _
def t_X6_perimeter_b73 (E : zE) (k32 : Int32 → Int32 → Int32 → twS → Option (Int32 × twS)) (p1 : Int32) (p2 : Int32) (p3 : Int32) (s : twS) : Option (Int32 × twS) :=
  k32 p1 p2 (p3 + 1) s
theorem ts_X6_perimeter_b73 (E : zE) (q : Nat) (g : zH) {K32 : Nat → Int32 → Int32 → Int32 → zH → Option (Int32 × zH)} {k32 : Int32 → Int32 → Int32 → twS → Option (Int32 × twS)} (hk32 : ∀ (p1 : Int32) (p2 : Int32) (p3 : Int32) (s : twS), K32 q p1 p2 p3 (tw s q g) = (k32 p1 p2 p3 s).map (zem q g)) (p1 : Int32) (p2 : Int32) (p3 : Int32) (s : twS) : f_X6_perimeter_b73 E K32 q p1 p2 p3 (tw s q g) = (t_X6_perimeter_b73 E k32 p1 p2 p3 s).map (zem q g) := by
  unfold f_X6_perimeter_b73 t_X6_perimeter_b73
  exact hk32 _ _ _  _
def t_X6_perimeter_l32 (E : zE) : Nat → Int32 → Int32 → Int32 → twS → Option (Int32 × twS)
  | 0, _, _, _, _ => none
  | n + 1, p1, p2, p3, s =>
    if (900 : Int32) ≤ p3 then (
      some (p2, s)
    ) else (
      (tdL s 1 ((250 : Int32) + p3)).bind fun x4 =>
      if x4 = (p1.toInt64) then (
        bnd2 (t_X6_neighboursOf E p1 (p3 - p3 / (30 : Int32) * (30 : Int32)) (p3 / (30 : Int32)) s) fun x10 s8_ =>
        t_X6_perimeter_b73 E (t_X6_perimeter_l32 E n) p1 (p2 + ((4 : Int32) - x10)) p3 s8_
      ) else (
        t_X6_perimeter_b73 E (t_X6_perimeter_l32 E n) p1 p2 p3 s
      )
    )
theorem ts_X6_perimeter_l32 (E : zE) (q : Nat) (g : zH) : ∀ (n : Nat) (p1 : Int32) (p2 : Int32) (p3 : Int32) (s : twS), f_X6_perimeter_l32 E n q p1 p2 p3 (tw s q g) = (t_X6_perimeter_l32 E n p1 p2 p3 s).map (zem q g) := by
  intro n
  induction n with
  | zero => intros; rfl
  | succ n ih =>
    intro p1 p2 p3 s
    unfold f_X6_perimeter_l32 t_X6_perimeter_l32
    refine tb6 ?_ ?_
    · rfl
    · refine tb1 (tw_gR_0 _ q g) ?_
      refine tb2 (tw_dL _ q g (by decide) _ ) fun x4 => ?_
      refine tb6 ?_ ?_
      · refine tb1 (tw_cko _ q g) ?_
        refine tb5 (ts_X6_neighboursOf E q g  _ _ _  _) fun x10 s8_ => ?_
        exact ts_X6_perimeter_b73 E q g ih  _ _ _  _
      · exact ts_X6_perimeter_b73 E q g ih  _ _ _  _
def t_X6_perimeter_b19 (E : zE) (p1 : Int32) (s1 : Int32) (s : twS) : Option (Int32 × twS) :=
  bnd2 (t_X6_throwsIf E s1 (1 : Int32) s) fun x4 s2_ =>
  if x4 = 0 then (
    t_X6_perimeter_l32 E E.1 p1 (0 : Int32) (0 : Int32) s2_
  ) else (
    some ((0 : Int32), s2_)
  )
theorem ts_X6_perimeter_b19 (E : zE) (q : Nat) (g : zH) (p1 : Int32) (s1 : Int32) (s : twS) : f_X6_perimeter_b19 E q p1 q s1 (tw s q g) = (t_X6_perimeter_b19 E p1 s1 s).map (zem q g) := by
  unfold f_X6_perimeter_b19 t_X6_perimeter_b19
  refine tb1 (tw_cko _ q g) ?_
  refine tb5 (ts_X6_throwsIf E q g  _ _  _) fun x4 s2_ => ?_
  refine tb6 ?_ ?_
  · exact ts_X6_perimeter_l32 E q g E.1 _ _ _  _
  · rfl
def t_X6_perimeter_b0 (E : zE) (p1 : Int32) (s : twS) : Option (Int32 × twS) :=
  bnd2 (t_X6_isFranchisee E p1 (uSc s 2 (0 : Int32))) fun x6 s4_ =>
  if x6 = 0 then (
    t_X6_perimeter_b19 E p1 (1 : Int32) s4_
  ) else (
    t_X6_perimeter_b19 E p1 (0 : Int32) s4_
  )
theorem ts_X6_perimeter_b0 (E : zE) (q : Nat) (g : zH) (p1 : Int32) (s : twS) : f_X6_perimeter_b0 E q p1 (tw s q g) = (t_X6_perimeter_b0 E p1 s).map (zem q g) := by
  unfold f_X6_perimeter_b0 t_X6_perimeter_b0
  refine tb1 (tw_pI_2 _ q g _) ?_
  refine tb1 (tw_cko _ q g) ?_
  refine tb5 (ts_X6_isFranchisee E q g  _  _) fun x6 s4_ => ?_
  refine tb6 ?_ ?_
  · exact ts_X6_perimeter_b19 E q g  _ _  _
  · exact ts_X6_perimeter_b19 E q g  _ _  _
def t_X6_perimeter (E : zE) (p1 : Int32) (s : twS) : Option (Int32 × twS) :=
  t_X6_perimeter_b0 E p1 s
theorem ts_X6_perimeter (E : zE) (q : Nat) (g : zH) (p1 : Int32) (s : twS) : f_X6_perimeter E q p1 (tw s q g) = (t_X6_perimeter E p1 s).map (zem q g) := by
  unfold f_X6_perimeter t_X6_perimeter
  exact ts_X6_perimeter_b0 E q g  _  _
def t_X6_border_b39 (E : zE) (s : twS) : Option (Int32 × twS) :=
  some ((0 : Int32), s)
theorem ts_X6_border_b39 (E : zE) (q : Nat) (g : zH) (s : twS) : f_X6_border_b39 E  (tw s q g) = (t_X6_border_b39 E  s).map (zem q g) := by
  unfold f_X6_border_b39 t_X6_border_b39
  rfl
def t_X6_border_b89 (E : zE) (k46 : Int32 → Int32 → Int32 → Int32 → twS → Option (Int32 × twS)) (p1 : Int32) (p2 : Int32) (p3 : Int32) (p4 : Int32) (s : twS) : Option (Int32 × twS) :=
  k46 p1 p2 p3 (p4 + 1) s
theorem ts_X6_border_b89 (E : zE) (q : Nat) (g : zH) {K46 : Nat → Int32 → Int32 → Int32 → Int32 → zH → Option (Int32 × zH)} {k46 : Int32 → Int32 → Int32 → Int32 → twS → Option (Int32 × twS)} (hk46 : ∀ (p1 : Int32) (p2 : Int32) (p3 : Int32) (p4 : Int32) (s : twS), K46 q p1 p2 p3 p4 (tw s q g) = (k46 p1 p2 p3 p4 s).map (zem q g)) (p1 : Int32) (p2 : Int32) (p3 : Int32) (p4 : Int32) (s : twS) : f_X6_border_b89 E K46 q p1 p2 p3 p4 (tw s q g) = (t_X6_border_b89 E k46 p1 p2 p3 p4 s).map (zem q g) := by
  unfold f_X6_border_b89 t_X6_border_b89
  exact hk46 _ _ _ _  _
def t_X6_border_l46 (E : zE) : Nat → Int32 → Int32 → Int32 → Int32 → twS → Option (Int32 × twS)
  | 0, _, _, _, _, _ => none
  | n + 1, p1, p2, p3, p4, s =>
    if (900 : Int32) ≤ p4 then (
      some (p3, s)
    ) else (
      (tdL s 1 ((250 : Int32) + p4)).bind fun x4 =>
      if x4 = (p1.toInt64) then (
        bnd2 (t_X6_neighboursOf E p2 (p4 - p4 / (30 : Int32) * (30 : Int32)) (p4 / (30 : Int32)) s) fun x10 s8_ =>
        t_X6_border_b89 E (t_X6_border_l46 E n) p1 p2 (p3 + x10) p4 s8_
      ) else (
        t_X6_border_b89 E (t_X6_border_l46 E n) p1 p2 p3 p4 s
      )
    )
theorem ts_X6_border_l46 (E : zE) (q : Nat) (g : zH) : ∀ (n : Nat) (p1 : Int32) (p2 : Int32) (p3 : Int32) (p4 : Int32) (s : twS), f_X6_border_l46 E n q p1 p2 p3 p4 (tw s q g) = (t_X6_border_l46 E n p1 p2 p3 p4 s).map (zem q g) := by
  intro n
  induction n with
  | zero => intros; rfl
  | succ n ih =>
    intro p1 p2 p3 p4 s
    unfold f_X6_border_l46 t_X6_border_l46
    refine tb6 ?_ ?_
    · rfl
    · refine tb1 (tw_gR_0 _ q g) ?_
      refine tb2 (tw_dL _ q g (by decide) _ ) fun x4 => ?_
      refine tb6 ?_ ?_
      · refine tb1 (tw_cko _ q g) ?_
        refine tb5 (ts_X6_neighboursOf E q g  _ _ _  _) fun x10 s8_ => ?_
        exact ts_X6_border_b89 E q g ih  _ _ _ _  _
      · exact ts_X6_border_b89 E q g ih  _ _ _ _  _
def t_X6_border_b27 (E : zE) (p1 : Int32) (p2 : Int32) (s1 : Int32) (s : twS) : Option (Int32 × twS) :=
  bnd2 (t_X6_throwsIf E s1 (1 : Int32) s) fun x4 s2_ =>
  if x4 = 0 then (
    if p1 = p2 then (
      t_X6_border_b39 E s2_
    ) else (
      t_X6_border_l46 E E.1 p1 p2 (0 : Int32) (0 : Int32) s2_
    )
  ) else (
    t_X6_border_b39 E s2_
  )
theorem ts_X6_border_b27 (E : zE) (q : Nat) (g : zH) (p1 : Int32) (p2 : Int32) (s1 : Int32) (s : twS) : f_X6_border_b27 E q p1 p2 q s1 (tw s q g) = (t_X6_border_b27 E p1 p2 s1 s).map (zem q g) := by
  unfold f_X6_border_b27 t_X6_border_b27
  refine tb1 (tw_cko _ q g) ?_
  refine tb5 (ts_X6_throwsIf E q g  _ _  _) fun x4 s2_ => ?_
  refine tb6 ?_ ?_
  · refine tb6 ?_ ?_
    · exact ts_X6_border_b39 E q g   _
    · exact ts_X6_border_l46 E q g E.1 _ _ _ _  _
  · exact ts_X6_border_b39 E q g   _
def t_X6_border_b22 (E : zE) (p1 : Int32) (p2 : Int32) (s : twS) : Option (Int32 × twS) :=
  t_X6_border_b27 E p1 p2 (1 : Int32) s
theorem ts_X6_border_b22 (E : zE) (q : Nat) (g : zH) (p1 : Int32) (p2 : Int32) (s : twS) : f_X6_border_b22 E q p1 p2 q (tw s q g) = (t_X6_border_b22 E p1 p2 s).map (zem q g) := by
  unfold f_X6_border_b22 t_X6_border_b22
  exact ts_X6_border_b27 E q g  _ _ _  _
def t_X6_border_b0 (E : zE) (p1 : Int32) (p2 : Int32) (s : twS) : Option (Int32 × twS) :=
  bnd2 (t_X6_isFranchisee E p1 (uSc s 2 (0 : Int32))) fun x6 s4_ =>
  if x6 = 0 then (
    t_X6_border_b22 E p1 p2 s4_
  ) else (
    bnd2 (t_X6_isFranchisee E p2 s4_) fun x11 s9_ =>
    if x11 = 0 then (
      t_X6_border_b22 E p1 p2 s9_
    ) else (
      t_X6_border_b27 E p1 p2 (0 : Int32) s9_
    )
  )
theorem ts_X6_border_b0 (E : zE) (q : Nat) (g : zH) (p1 : Int32) (p2 : Int32) (s : twS) : f_X6_border_b0 E q p1 p2 (tw s q g) = (t_X6_border_b0 E p1 p2 s).map (zem q g) := by
  unfold f_X6_border_b0 t_X6_border_b0
  refine tb1 (tw_pI_2 _ q g _) ?_
  refine tb1 (tw_cko _ q g) ?_
  refine tb5 (ts_X6_isFranchisee E q g  _  _) fun x6 s4_ => ?_
  refine tb6 ?_ ?_
  · exact ts_X6_border_b22 E q g  _ _  _
  · refine tb1 (tw_cko _ q g) ?_
    refine tb5 (ts_X6_isFranchisee E q g  _  _) fun x11 s9_ => ?_
    refine tb6 ?_ ?_
    · exact ts_X6_border_b22 E q g  _ _  _
    · exact ts_X6_border_b27 E q g  _ _ _  _
def t_X6_border (E : zE) (p1 : Int32) (p2 : Int32) (s : twS) : Option (Int32 × twS) :=
  t_X6_border_b0 E p1 p2 s
theorem ts_X6_border (E : zE) (q : Nat) (g : zH) (p1 : Int32) (p2 : Int32) (s : twS) : f_X6_border E q p1 p2 (tw s q g) = (t_X6_border E p1 p2 s).map (zem q g) := by
  unfold f_X6_border t_X6_border
  exact ts_X6_border_b0 E q g  _ _  _
def t_X6_isReached_b27 (E : zE) (s0 : Int32) (s : twS) : Option (Int32 × twS) :=
  (zgd .boolean s0).bind fun _ =>
  some (s0, s)
theorem ts_X6_isReached_b27 (E : zE) (q : Nat) (g : zH) (s0 : Int32) (s : twS) : f_X6_isReached_b27 E s0 (tw s q g) = (t_X6_isReached_b27 E s0 s).map (zem q g) := by
  unfold f_X6_isReached_b27 t_X6_isReached_b27
  refine tb2 rfl fun _ => ?_
  rfl
def t_X6_isReached_b26 (E : zE) (s : twS) : Option (Int32 × twS) :=
  t_X6_isReached_b27 E (0 : Int32) s
theorem ts_X6_isReached_b26 (E : zE) (q : Nat) (g : zH) (s : twS) : f_X6_isReached_b26 E  (tw s q g) = (t_X6_isReached_b26 E  s).map (zem q g) := by
  unfold f_X6_isReached_b26 t_X6_isReached_b26
  exact ts_X6_isReached_b27 E q g  _  _
def t_X6_isReached_b0 (E : zE) (p1 : Int32) (p2 : Int32) (s : twS) : Option (Int32 × twS) :=
  bnd2 (t_X6_isCell E p1 p2 s) fun x3 s1_ =>
  if x3 = 0 then (
    t_X6_isReached_b26 E s1_
  ) else (
    (tdI s1_ 3 3 (((30 : Int32) * p2) + p1)).bind fun x7 =>
    if x7 = 0 then (
      t_X6_isReached_b26 E s1_
    ) else (
      t_X6_isReached_b27 E (1 : Int32) s1_
    )
  )
theorem ts_X6_isReached_b0 (E : zE) (q : Nat) (g : zH) (p1 : Int32) (p2 : Int32) (s : twS) : f_X6_isReached_b0 E q p1 p2 (tw s q g) = (t_X6_isReached_b0 E p1 p2 s).map (zem q g) := by
  unfold f_X6_isReached_b0 t_X6_isReached_b0
  refine tb5 (ts_X6_isCell E q g  _ _  _) fun x3 s1_ => ?_
  refine tb6 ?_ ?_
  · exact ts_X6_isReached_b26 E q g   _
  · refine tb1 (tw_gR_3 _ q g) ?_
    refine tb2 (tw_dI _ q g (by decide) _ _ ) fun x7 => ?_
    refine tb6 ?_ ?_
    · exact ts_X6_isReached_b26 E q g   _
    · exact ts_X6_isReached_b27 E q g  _  _
def t_X6_isReached (E : zE) (p1 : Int32) (p2 : Int32) (s : twS) : Option (Int32 × twS) :=
  t_X6_isReached_b0 E p1 p2 s
theorem ts_X6_isReached (E : zE) (q : Nat) (g : zH) (p1 : Int32) (p2 : Int32) (s : twS) : f_X6_isReached E q p1 p2 (tw s q g) = (t_X6_isReached E p1 p2 s).map (zem q g) := by
  unfold f_X6_isReached t_X6_isReached
  exact ts_X6_isReached_b0 E q g  _ _  _
def t_X6_connected_b229 (E : zE) (s0 : Int32) (s : twS) : Option (Int32 × twS) :=
  (zgd .boolean s0).bind fun _ =>
  some (s0, s)
theorem ts_X6_connected_b229 (E : zE) (q : Nat) (g : zH) (s0 : Int32) (s : twS) : f_X6_connected_b229 E s0 (tw s q g) = (t_X6_connected_b229 E s0 s).map (zem q g) := by
  unfold f_X6_connected_b229 t_X6_connected_b229
  refine tb2 rfl fun _ => ?_
  rfl
def t_X6_connected_b206 (E : zE) (k74 : Int32 → Int32 → Int32 → twS → Option (Int32 × twS)) (k85 : Int32 → Int32 → Int32 → Int32 → twS → Option (Int32 × twS)) (p1 : Int32) (p3 : Int32) (p4 : Int32) (p5 : Int32) (s : twS) : Option (Int32 × twS) :=
  k85 p1 p3 p4 (p5 + 1) s
theorem ts_X6_connected_b206 (E : zE) (q : Nat) (g : zH) {K74 : Nat → Int32 → Int32 → Int32 → zH → Option (Int32 × zH)} {k74 : Int32 → Int32 → Int32 → twS → Option (Int32 × twS)} (hk74 : ∀ (p1 : Int32) (p3 : Int32) (p4 : Int32) (s : twS), K74 q p1 p3 p4 (tw s q g) = (k74 p1 p3 p4 s).map (zem q g)) {K85 : Nat → Int32 → Int32 → Int32 → Int32 → zH → Option (Int32 × zH)} {k85 : Int32 → Int32 → Int32 → Int32 → twS → Option (Int32 × twS)} (hk85 : ∀ (p1 : Int32) (p3 : Int32) (p4 : Int32) (p5 : Int32) (s : twS), K85 q p1 p3 p4 p5 (tw s q g) = (k85 p1 p3 p4 p5 s).map (zem q g)) (p1 : Int32) (p3 : Int32) (p4 : Int32) (p5 : Int32) (s : twS) : f_X6_connected_b206 E K74 K85 q p1 p3 p4 p5 (tw s q g) = (t_X6_connected_b206 E k74 k85 p1 p3 p4 p5 s).map (zem q g) := by
  unfold f_X6_connected_b206 t_X6_connected_b206
  exact hk85 _ _ _ _  _
def t_X6_connected_b192 (E : zE) (k74 : Int32 → Int32 → Int32 → twS → Option (Int32 × twS)) (k85 : Int32 → Int32 → Int32 → Int32 → twS → Option (Int32 × twS)) (p1 : Int32) (p3 : Int32) (p5 : Int32) (s : twS) : Option (Int32 × twS) :=
  (tsI s 3 3 p5 (1 : Int32)).bind fun s3_ =>
  t_X6_connected_b206 E k74 k85 p1 (p3 + 1) (1 : Int32) p5 s3_
theorem ts_X6_connected_b192 (E : zE) (q : Nat) (g : zH) {K74 : Nat → Int32 → Int32 → Int32 → zH → Option (Int32 × zH)} {k74 : Int32 → Int32 → Int32 → twS → Option (Int32 × twS)} (hk74 : ∀ (p1 : Int32) (p3 : Int32) (p4 : Int32) (s : twS), K74 q p1 p3 p4 (tw s q g) = (k74 p1 p3 p4 s).map (zem q g)) {K85 : Nat → Int32 → Int32 → Int32 → Int32 → zH → Option (Int32 × zH)} {k85 : Int32 → Int32 → Int32 → Int32 → twS → Option (Int32 × twS)} (hk85 : ∀ (p1 : Int32) (p3 : Int32) (p4 : Int32) (p5 : Int32) (s : twS), K85 q p1 p3 p4 p5 (tw s q g) = (k85 p1 p3 p4 p5 s).map (zem q g)) (p1 : Int32) (p3 : Int32) (p5 : Int32) (s : twS) : f_X6_connected_b192 E K74 K85 q p1 p3 p5 (tw s q g) = (t_X6_connected_b192 E k74 k85 p1 p3 p5 s).map (zem q g) := by
  unfold f_X6_connected_b192 t_X6_connected_b192
  refine tb1 (tw_gR_3 _ q g) ?_
  refine tb4 (tw_sI _ q g (by decide) _ _ _ ) fun s3_ => ?_
  exact ts_X6_connected_b206 E q g hk74 hk85  _ _ _ _  _
def t_X6_connected_l85 (E : zE) (k74 : Int32 → Int32 → Int32 → twS → Option (Int32 × twS)) : Nat → Int32 → Int32 → Int32 → Int32 → twS → Option (Int32 × twS)
  | 0, _, _, _, _, _ => none
  | n + 1, p1, p3, p4, p5, s =>
    if (900 : Int32) ≤ p5 then (
      k74 p1 p3 p4 s
    ) else (
      (tdI s 3 3 p5).bind fun x4 =>
      if x4 = 0 then (
        (tdL s 1 ((250 : Int32) + p5)).bind fun x9 =>
        if x9 = (p1.toInt64) then (
          bnd2 (t_X6_isReached E ((p5 - p5 / (30 : Int32) * (30 : Int32)) - (1 : Int32)) (p5 / (30 : Int32)) s) fun x15 s13_ =>
          if x15 = 0 then (
            bnd2 (t_X6_isReached E ((p5 - p5 / (30 : Int32) * (30 : Int32)) + (1 : Int32)) (p5 / (30 : Int32)) s13_) fun x20 s18_ =>
            if x20 = 0 then (
              bnd2 (t_X6_isReached E (p5 - p5 / (30 : Int32) * (30 : Int32)) ((p5 / (30 : Int32)) - (1 : Int32)) s18_) fun x25 s23_ =>
              if x25 = 0 then (
                bnd2 (t_X6_isReached E (p5 - p5 / (30 : Int32) * (30 : Int32)) ((p5 / (30 : Int32)) + (1 : Int32)) s23_) fun x30 s28_ =>
                if x30 = 0 then (
                  t_X6_connected_b206 E k74 (t_X6_connected_l85 E k74 n) p1 p3 p4 p5 s28_
                ) else (
                  t_X6_connected_b192 E k74 (t_X6_connected_l85 E k74 n) p1 p3 p5 s28_
                )
              ) else (
                t_X6_connected_b192 E k74 (t_X6_connected_l85 E k74 n) p1 p3 p5 s23_
              )
            ) else (
              t_X6_connected_b192 E k74 (t_X6_connected_l85 E k74 n) p1 p3 p5 s18_
            )
          ) else (
            t_X6_connected_b192 E k74 (t_X6_connected_l85 E k74 n) p1 p3 p5 s13_
          )
        ) else (
          t_X6_connected_b206 E k74 (t_X6_connected_l85 E k74 n) p1 p3 p4 p5 s
        )
      ) else (
        t_X6_connected_b206 E k74 (t_X6_connected_l85 E k74 n) p1 p3 p4 p5 s
      )
    )
theorem ts_X6_connected_l85 (E : zE) (q : Nat) (g : zH) {K74 : Nat → Int32 → Int32 → Int32 → zH → Option (Int32 × zH)} {k74 : Int32 → Int32 → Int32 → twS → Option (Int32 × twS)} (hk74 : ∀ (p1 : Int32) (p3 : Int32) (p4 : Int32) (s : twS), K74 q p1 p3 p4 (tw s q g) = (k74 p1 p3 p4 s).map (zem q g)) : ∀ (n : Nat) (p1 : Int32) (p3 : Int32) (p4 : Int32) (p5 : Int32) (s : twS), f_X6_connected_l85 E K74 n q p1 p3 p4 p5 (tw s q g) = (t_X6_connected_l85 E k74 n p1 p3 p4 p5 s).map (zem q g) := by
  intro n
  induction n with
  | zero => intros; rfl
  | succ n ih =>
    intro p1 p3 p4 p5 s
    unfold f_X6_connected_l85 t_X6_connected_l85
    refine tb6 ?_ ?_
    · exact hk74 _ _ _  _
    · refine tb1 (tw_gR_3 _ q g) ?_
      refine tb2 (tw_dI _ q g (by decide) _ _ ) fun x4 => ?_
      refine tb6 ?_ ?_
      · refine tb1 (tw_gR_0 _ q g) ?_
        refine tb2 (tw_dL _ q g (by decide) _ ) fun x9 => ?_
        refine tb6 ?_ ?_
        · refine tb1 (tw_cko _ q g) ?_
          refine tb5 (ts_X6_isReached E q g  _ _  _) fun x15 s13_ => ?_
          refine tb6 ?_ ?_
          · refine tb1 (tw_cko _ q g) ?_
            refine tb5 (ts_X6_isReached E q g  _ _  _) fun x20 s18_ => ?_
            refine tb6 ?_ ?_
            · refine tb1 (tw_cko _ q g) ?_
              refine tb5 (ts_X6_isReached E q g  _ _  _) fun x25 s23_ => ?_
              refine tb6 ?_ ?_
              · refine tb1 (tw_cko _ q g) ?_
                refine tb5 (ts_X6_isReached E q g  _ _  _) fun x30 s28_ => ?_
                refine tb6 ?_ ?_
                · exact ts_X6_connected_b206 E q g hk74 ih  _ _ _ _  _
                · exact ts_X6_connected_b192 E q g hk74 ih  _ _ _  _
              · exact ts_X6_connected_b192 E q g hk74 ih  _ _ _  _
            · exact ts_X6_connected_b192 E q g hk74 ih  _ _ _  _
          · exact ts_X6_connected_b192 E q g hk74 ih  _ _ _  _
        · exact ts_X6_connected_b206 E q g hk74 ih  _ _ _ _  _
      · exact ts_X6_connected_b206 E q g hk74 ih  _ _ _ _  _
def t_X6_connected_l74 (E : zE) : Nat → Int32 → Int32 → Int32 → twS → Option (Int32 × twS)
  | 0, _, _, _, _ => none
  | n + 1, p1, p3, p4, s =>
    if p4 = 0 then (
      bnd2 (t_X6_areaOf E p1 s) fun x5 s3_ =>
      if p3 = x5 then (
        t_X6_connected_b229 E (1 : Int32) s3_
      ) else (
        t_X6_connected_b229 E (0 : Int32) s3_
      )
    ) else (
      t_X6_connected_l85 E (t_X6_connected_l74 E n) E.1 p1 p3 (0 : Int32) (0 : Int32) s
    )
theorem ts_X6_connected_l74 (E : zE) (q : Nat) (g : zH) : ∀ (n : Nat) (p1 : Int32) (p3 : Int32) (p4 : Int32) (s : twS), f_X6_connected_l74 E n q p1 p3 p4 (tw s q g) = (t_X6_connected_l74 E n p1 p3 p4 s).map (zem q g) := by
  intro n
  induction n with
  | zero => intros; rfl
  | succ n ih =>
    intro p1 p3 p4 s
    unfold f_X6_connected_l74 t_X6_connected_l74
    refine tb6 ?_ ?_
    · refine tb1 (tw_cko _ q g) ?_
      refine tb5 (ts_X6_areaOf E q g  _  _) fun x5 s3_ => ?_
      refine tb6 ?_ ?_
      · exact ts_X6_connected_b229 E q g  _  _
      · exact ts_X6_connected_b229 E q g  _  _
    · exact ts_X6_connected_l85 E q g ih E.1 _ _ _ _  _
def t_X6_connected_l42 (E : zE) : Nat → Int32 → Int32 → Int32 → twS → Option (Int32 × twS)
  | 0, _, _, _, _ => none
  | n + 1, p1, p2, p3, s =>
    if (900 : Int32) ≤ p3 then (
      (tsI s 3 3 p2 (1 : Int32)).bind fun s4_ =>
      t_X6_connected_l74 E E.1 p1 (1 : Int32) (1 : Int32) s4_
    ) else (
      (tsI s 3 3 p3 (0 : Int32)).bind fun s8_ =>
      t_X6_connected_l42 E n p1 p2 (p3 + 1) s8_
    )
theorem ts_X6_connected_l42 (E : zE) (q : Nat) (g : zH) : ∀ (n : Nat) (p1 : Int32) (p2 : Int32) (p3 : Int32) (s : twS), f_X6_connected_l42 E n q p1 p2 p3 (tw s q g) = (t_X6_connected_l42 E n p1 p2 p3 s).map (zem q g) := by
  intro n
  induction n with
  | zero => intros; rfl
  | succ n ih =>
    intro p1 p2 p3 s
    unfold f_X6_connected_l42 t_X6_connected_l42
    refine tb6 ?_ ?_
    · refine tb1 (tw_gR_3 _ q g) ?_
      refine tb4 (tw_sI _ q g (by decide) _ _ _ ) fun s4_ => ?_
      exact ts_X6_connected_l74 E q g E.1 _ _ _  _
    · refine tb1 (tw_gR_3 _ q g) ?_
      refine tb4 (tw_sI _ q g (by decide) _ _ _ ) fun s8_ => ?_
      exact ih _ _ _  _
def t_X6_connected_b31 (E : zE) (p1 : Int32) (p2 : Int32) (s : twS) : Option (Int32 × twS) :=
  if p2 = (900 : Int32) then (
    some ((0 : Int32), s)
  ) else (
    t_X6_connected_l42 E E.1 p1 p2 (0 : Int32) s
  )
theorem ts_X6_connected_b31 (E : zE) (q : Nat) (g : zH) (p1 : Int32) (p2 : Int32) (s : twS) : f_X6_connected_b31 E q p1 p2 (tw s q g) = (t_X6_connected_b31 E p1 p2 s).map (zem q g) := by
  unfold f_X6_connected_b31 t_X6_connected_b31
  refine tb6 ?_ ?_
  · rfl
  · exact ts_X6_connected_l42 E q g E.1 _ _ _  _
def t_X6_connected_l2 (E : zE) : Nat → Int32 → Int32 → twS → Option (Int32 × twS)
  | 0, _, _, _ => none
  | n + 1, p1, p2, s =>
    if (900 : Int32) ≤ p2 then (
      t_X6_connected_b31 E p1 p2 s
    ) else (
      (tdL s 1 ((250 : Int32) + p2)).bind fun x4 =>
      if x4 = (p1.toInt64) then (
        t_X6_connected_b31 E p1 p2 s
      ) else (
        t_X6_connected_l2 E n p1 (p2 + 1) s
      )
    )
theorem ts_X6_connected_l2 (E : zE) (q : Nat) (g : zH) : ∀ (n : Nat) (p1 : Int32) (p2 : Int32) (s : twS), f_X6_connected_l2 E n q p1 p2 (tw s q g) = (t_X6_connected_l2 E n p1 p2 s).map (zem q g) := by
  intro n
  induction n with
  | zero => intros; rfl
  | succ n ih =>
    intro p1 p2 s
    unfold f_X6_connected_l2 t_X6_connected_l2
    refine tb6 ?_ ?_
    · exact ts_X6_connected_b31 E q g  _ _  _
    · refine tb1 (tw_gR_0 _ q g) ?_
      refine tb2 (tw_dL _ q g (by decide) _ ) fun x4 => ?_
      refine tb6 ?_ ?_
      · exact ts_X6_connected_b31 E q g  _ _  _
      · exact ih _ _  _
def t_X6_connected_b0 (E : zE) (p1 : Int32) (s : twS) : Option (Int32 × twS) :=
  t_X6_connected_l2 E E.1 p1 (0 : Int32) s
theorem ts_X6_connected_b0 (E : zE) (q : Nat) (g : zH) (p1 : Int32) (s : twS) : f_X6_connected_b0 E q p1 (tw s q g) = (t_X6_connected_b0 E p1 s).map (zem q g) := by
  unfold f_X6_connected_b0 t_X6_connected_b0
  exact ts_X6_connected_l2 E q g E.1 _ _  _
def t_X6_connected (E : zE) (p1 : Int32) (s : twS) : Option (Int32 × twS) :=
  t_X6_connected_b0 E p1 s
theorem ts_X6_connected (E : zE) (q : Nat) (g : zH) (p1 : Int32) (s : twS) : f_X6_connected E q p1 (tw s q g) = (t_X6_connected E p1 s).map (zem q g) := by
  unfold f_X6_connected t_X6_connected
  exact ts_X6_connected_b0 E q g  _  _
def t_X6_isConnected_b39 (E : zE) (s0 : Int32) (s : twS) : Option (Int32 × twS) :=
  (zgd .boolean s0).bind fun _ =>
  some (s0, s)
theorem ts_X6_isConnected_b39 (E : zE) (q : Nat) (g : zH) (s0 : Int32) (s : twS) : f_X6_isConnected_b39 E s0 (tw s q g) = (t_X6_isConnected_b39 E s0 s).map (zem q g) := by
  unfold f_X6_isConnected_b39 t_X6_isConnected_b39
  refine tb2 rfl fun _ => ?_
  rfl
def t_X6_isConnected_b38 (E : zE) (s : twS) : Option (Int32 × twS) :=
  t_X6_isConnected_b39 E (0 : Int32) s
theorem ts_X6_isConnected_b38 (E : zE) (q : Nat) (g : zH) (s : twS) : f_X6_isConnected_b38 E  (tw s q g) = (t_X6_isConnected_b38 E  s).map (zem q g) := by
  unfold f_X6_isConnected_b38 t_X6_isConnected_b38
  exact ts_X6_isConnected_b39 E q g  _  _
def t_X6_isConnected_b19 (E : zE) (p1 : Int32) (s1 : Int32) (s : twS) : Option (Int32 × twS) :=
  bnd2 (t_X6_throwsIf E s1 (1 : Int32) s) fun x4 s2_ =>
  if x4 = 0 then (
    bnd2 (t_X6_connected E p1 s2_) fun x9 s7_ =>
    if x9 = 0 then (
      t_X6_isConnected_b38 E s7_
    ) else (
      t_X6_isConnected_b39 E (1 : Int32) s7_
    )
  ) else (
    t_X6_isConnected_b38 E s2_
  )
theorem ts_X6_isConnected_b19 (E : zE) (q : Nat) (g : zH) (p1 : Int32) (s1 : Int32) (s : twS) : f_X6_isConnected_b19 E q p1 q s1 (tw s q g) = (t_X6_isConnected_b19 E p1 s1 s).map (zem q g) := by
  unfold f_X6_isConnected_b19 t_X6_isConnected_b19
  refine tb1 (tw_cko _ q g) ?_
  refine tb5 (ts_X6_throwsIf E q g  _ _  _) fun x4 s2_ => ?_
  refine tb6 ?_ ?_
  · refine tb1 (tw_cko _ q g) ?_
    refine tb5 (ts_X6_connected E q g  _  _) fun x9 s7_ => ?_
    refine tb6 ?_ ?_
    · exact ts_X6_isConnected_b38 E q g   _
    · exact ts_X6_isConnected_b39 E q g  _  _
  · exact ts_X6_isConnected_b38 E q g   _
def t_X6_isConnected_b0 (E : zE) (p1 : Int32) (s : twS) : Option (Int32 × twS) :=
  bnd2 (t_X6_isFranchisee E p1 (uSc s 2 (0 : Int32))) fun x6 s4_ =>
  if x6 = 0 then (
    t_X6_isConnected_b19 E p1 (1 : Int32) s4_
  ) else (
    t_X6_isConnected_b19 E p1 (0 : Int32) s4_
  )
theorem ts_X6_isConnected_b0 (E : zE) (q : Nat) (g : zH) (p1 : Int32) (s : twS) : f_X6_isConnected_b0 E q p1 (tw s q g) = (t_X6_isConnected_b0 E p1 s).map (zem q g) := by
  unfold f_X6_isConnected_b0 t_X6_isConnected_b0
  refine tb1 (tw_pI_2 _ q g _) ?_
  refine tb1 (tw_cko _ q g) ?_
  refine tb5 (ts_X6_isFranchisee E q g  _  _) fun x6 s4_ => ?_
  refine tb6 ?_ ?_
  · exact ts_X6_isConnected_b19 E q g  _ _  _
  · exact ts_X6_isConnected_b19 E q g  _ _  _
def t_X6_isConnected (E : zE) (p1 : Int32) (s : twS) : Option (Int32 × twS) :=
  t_X6_isConnected_b0 E p1 s
theorem ts_X6_isConnected (E : zE) (q : Nat) (g : zH) (p1 : Int32) (s : twS) : f_X6_isConnected E q p1 (tw s q g) = (t_X6_isConnected E p1 s).map (zem q g) := by
  unfold f_X6_isConnected t_X6_isConnected
  exact ts_X6_isConnected_b0 E q g  _  _
def t_X6_size_b10 (E : zE) (s0 : Int32) (s : twS) : Option (Int32 × twS) :=
  some (s0, s)
theorem ts_X6_size_b10 (E : zE) (q : Nat) (g : zH) (s0 : Int32) (s : twS) : f_X6_size_b10 E s0 (tw s q g) = (t_X6_size_b10 E s0 s).map (zem q g) := by
  unfold f_X6_size_b10 t_X6_size_b10
  rfl
def t_X6_size_b0 (E : zE) (p0 : Int32) (s : twS) : Option (Int32 × twS) :=
  if 0 ≤ p0 then (
    t_X6_size_b10 E p0 s
  ) else (
    t_X6_size_b10 E (-p0) s
  )
theorem ts_X6_size_b0 (E : zE) (q : Nat) (g : zH) (p0 : Int32) (s : twS) : f_X6_size_b0 E p0 (tw s q g) = (t_X6_size_b0 E p0 s).map (zem q g) := by
  unfold f_X6_size_b0 t_X6_size_b0
  refine tb6 ?_ ?_
  · exact ts_X6_size_b10 E q g  _  _
  · exact ts_X6_size_b10 E q g  _  _
def t_X6_size (E : zE) (p0 : Int32) (s : twS) : Option (Int32 × twS) :=
  t_X6_size_b0 E p0 s
theorem ts_X6_size (E : zE) (q : Nat) (g : zH) (p0 : Int32) (s : twS) : f_X6_size E p0 (tw s q g) = (t_X6_size E p0 s).map (zem q g) := by
  unfold f_X6_size t_X6_size
  exact ts_X6_size_b0 E q g  _  _
def t_X6_apart_b0 (E : zE) (p0 : Int32) (p1 : Int32) (p2 : Int32) (s : twS) : Option (Int32 × twS) :=
  bnd2 (t_X6_size E (p0 - (p2 - p2 / (30 : Int32) * (30 : Int32))) s) fun x3 s1_ =>
  bnd2 (t_X6_size E (p1 - (p2 / (30 : Int32))) s1_) fun x6 s4_ =>
  some ((x3 + x6), s4_)
theorem ts_X6_apart_b0 (E : zE) (q : Nat) (g : zH) (p0 : Int32) (p1 : Int32) (p2 : Int32) (s : twS) : f_X6_apart_b0 E p0 p1 p2 (tw s q g) = (t_X6_apart_b0 E p0 p1 p2 s).map (zem q g) := by
  unfold f_X6_apart_b0 t_X6_apart_b0
  refine tb5 (ts_X6_size E q g  _  _) fun x3 s1_ => ?_
  refine tb5 (ts_X6_size E q g  _  _) fun x6 s4_ => ?_
  rfl
def t_X6_apart (E : zE) (p0 : Int32) (p1 : Int32) (p2 : Int32) (s : twS) : Option (Int32 × twS) :=
  t_X6_apart_b0 E p0 p1 p2 s
theorem ts_X6_apart (E : zE) (q : Nat) (g : zH) (p0 : Int32) (p1 : Int32) (p2 : Int32) (s : twS) : f_X6_apart E p0 p1 p2 (tw s q g) = (t_X6_apart E p0 p1 p2 s).map (zem q g) := by
  unfold f_X6_apart t_X6_apart
  exact ts_X6_apart_b0 E q g  _ _ _  _
def t_X6_distance_b47 (E : zE) (s : twS) : Option (Int32 × twS) :=
  some ((0 : Int32), s)
theorem ts_X6_distance_b47 (E : zE) (q : Nat) (g : zH) (s : twS) : f_X6_distance_b47 E  (tw s q g) = (t_X6_distance_b47 E  s).map (zem q g) := by
  unfold f_X6_distance_b47 t_X6_distance_b47
  rfl
def t_X6_distance_b107 (E : zE) (k55 : Int32 → Int32 → Int32 → Int32 → Int32 → twS → Option (Int32 × twS)) (p1 : Int32) (p2 : Int32) (p3 : Int32) (p4 : Int32) (p5 : Int32) (s : twS) : Option (Int32 × twS) :=
  k55 p1 p2 p3 p4 (p5 + 1) s
theorem ts_X6_distance_b107 (E : zE) (q : Nat) (g : zH) {K55 : Nat → Int32 → Int32 → Int32 → Int32 → Int32 → zH → Option (Int32 × zH)} {k55 : Int32 → Int32 → Int32 → Int32 → Int32 → twS → Option (Int32 × twS)} (hk55 : ∀ (p1 : Int32) (p2 : Int32) (p3 : Int32) (p4 : Int32) (p5 : Int32) (s : twS), K55 q p1 p2 p3 p4 p5 (tw s q g) = (k55 p1 p2 p3 p4 p5 s).map (zem q g)) (p1 : Int32) (p2 : Int32) (p3 : Int32) (p4 : Int32) (p5 : Int32) (s : twS) : f_X6_distance_b107 E K55 q p1 p2 p3 p4 p5 (tw s q g) = (t_X6_distance_b107 E k55 p1 p2 p3 p4 p5 s).map (zem q g) := by
  unfold f_X6_distance_b107 t_X6_distance_b107
  exact hk55 _ _ _ _ _  _
def t_X6_distance_b98 (E : zE) (k55 : Int32 → Int32 → Int32 → Int32 → Int32 → twS → Option (Int32 × twS)) (p1 : Int32) (p2 : Int32) (p3 : Int32) (p5 : Int32) (s : twS) : Option (Int32 × twS) :=
  bnd2 (t_X6_apart E p2 p3 p5 s) fun x3 s1_ =>
  t_X6_distance_b107 E k55 p1 p2 p3 x3 p5 s1_
theorem ts_X6_distance_b98 (E : zE) (q : Nat) (g : zH) {K55 : Nat → Int32 → Int32 → Int32 → Int32 → Int32 → zH → Option (Int32 × zH)} {k55 : Int32 → Int32 → Int32 → Int32 → Int32 → twS → Option (Int32 × twS)} (hk55 : ∀ (p1 : Int32) (p2 : Int32) (p3 : Int32) (p4 : Int32) (p5 : Int32) (s : twS), K55 q p1 p2 p3 p4 p5 (tw s q g) = (k55 p1 p2 p3 p4 p5 s).map (zem q g)) (p1 : Int32) (p2 : Int32) (p3 : Int32) (p5 : Int32) (s : twS) : f_X6_distance_b98 E K55 q p1 p2 p3 p5 (tw s q g) = (t_X6_distance_b98 E k55 p1 p2 p3 p5 s).map (zem q g) := by
  unfold f_X6_distance_b98 t_X6_distance_b98
  refine tb5 (ts_X6_apart E q g  _ _ _  _) fun x3 s1_ => ?_
  exact ts_X6_distance_b107 E q g hk55  _ _ _ _ _  _
def t_X6_distance_l55 (E : zE) : Nat → Int32 → Int32 → Int32 → Int32 → Int32 → twS → Option (Int32 × twS)
  | 0, _, _, _, _, _, _ => none
  | n + 1, p1, p2, p3, p4, p5, s =>
    if (900 : Int32) ≤ p5 then (
      some (p4, s)
    ) else (
      (tdL s 1 ((250 : Int32) + p5)).bind fun x4 =>
      if x4 = (p1.toInt64) then (
        if p4 = (-1 : Int32) then (
          t_X6_distance_b98 E (t_X6_distance_l55 E n) p1 p2 p3 p5 s
        ) else (
          bnd2 (t_X6_apart E p2 p3 p5 s) fun x10 s8_ =>
          if p4 ≤ x10 then (
            t_X6_distance_b107 E (t_X6_distance_l55 E n) p1 p2 p3 p4 p5 s8_
          ) else (
            t_X6_distance_b98 E (t_X6_distance_l55 E n) p1 p2 p3 p5 s8_
          )
        )
      ) else (
        t_X6_distance_b107 E (t_X6_distance_l55 E n) p1 p2 p3 p4 p5 s
      )
    )
theorem ts_X6_distance_l55 (E : zE) (q : Nat) (g : zH) : ∀ (n : Nat) (p1 : Int32) (p2 : Int32) (p3 : Int32) (p4 : Int32) (p5 : Int32) (s : twS), f_X6_distance_l55 E n q p1 p2 p3 p4 p5 (tw s q g) = (t_X6_distance_l55 E n p1 p2 p3 p4 p5 s).map (zem q g) := by
  intro n
  induction n with
  | zero => intros; rfl
  | succ n ih =>
    intro p1 p2 p3 p4 p5 s
    unfold f_X6_distance_l55 t_X6_distance_l55
    refine tb6 ?_ ?_
    · rfl
    · refine tb1 (tw_gR_0 _ q g) ?_
      refine tb2 (tw_dL _ q g (by decide) _ ) fun x4 => ?_
      refine tb6 ?_ ?_
      · refine tb6 ?_ ?_
        · exact ts_X6_distance_b98 E q g ih  _ _ _ _  _
        · refine tb5 (ts_X6_apart E q g  _ _ _  _) fun x10 s8_ => ?_
          refine tb6 ?_ ?_
          · exact ts_X6_distance_b107 E q g ih  _ _ _ _ _  _
          · exact ts_X6_distance_b98 E q g ih  _ _ _ _  _
      · exact ts_X6_distance_b107 E q g ih  _ _ _ _ _  _
def t_X6_distance_b40 (E : zE) (p1 : Int32) (p2 : Int32) (p3 : Int32) (s1 : Int32) (s : twS) : Option (Int32 × twS) :=
  bnd2 (t_X6_throwsIf E s1 (2 : Int32) s) fun x4 s2_ =>
  if x4 = 0 then (
    t_X6_distance_l55 E E.1 p1 p2 p3 (-1 : Int32) (0 : Int32) s2_
  ) else (
    t_X6_distance_b47 E s2_
  )
theorem ts_X6_distance_b40 (E : zE) (q : Nat) (g : zH) (p1 : Int32) (p2 : Int32) (p3 : Int32) (s1 : Int32) (s : twS) : f_X6_distance_b40 E q p1 p2 p3 q s1 (tw s q g) = (t_X6_distance_b40 E p1 p2 p3 s1 s).map (zem q g) := by
  unfold f_X6_distance_b40 t_X6_distance_b40
  refine tb1 (tw_cko _ q g) ?_
  refine tb5 (ts_X6_throwsIf E q g  _ _  _) fun x4 s2_ => ?_
  refine tb6 ?_ ?_
  · exact ts_X6_distance_l55 E q g E.1 _ _ _ _ _  _
  · exact ts_X6_distance_b47 E q g   _
def t_X6_distance_b19 (E : zE) (p1 : Int32) (p2 : Int32) (p3 : Int32) (s1 : Int32) (s : twS) : Option (Int32 × twS) :=
  bnd2 (t_X6_throwsIf E s1 (1 : Int32) s) fun x4 s2_ =>
  if x4 = 0 then (
    bnd2 (t_X6_isCell E p2 p3 s2_) fun x8 s6_ =>
    if x8 = 0 then (
      t_X6_distance_b40 E p1 p2 p3 (1 : Int32) s6_
    ) else (
      t_X6_distance_b40 E p1 p2 p3 (0 : Int32) s6_
    )
  ) else (
    t_X6_distance_b47 E s2_
  )
theorem ts_X6_distance_b19 (E : zE) (q : Nat) (g : zH) (p1 : Int32) (p2 : Int32) (p3 : Int32) (s1 : Int32) (s : twS) : f_X6_distance_b19 E q p1 p2 p3 q s1 (tw s q g) = (t_X6_distance_b19 E p1 p2 p3 s1 s).map (zem q g) := by
  unfold f_X6_distance_b19 t_X6_distance_b19
  refine tb1 (tw_cko _ q g) ?_
  refine tb5 (ts_X6_throwsIf E q g  _ _  _) fun x4 s2_ => ?_
  refine tb6 ?_ ?_
  · refine tb5 (ts_X6_isCell E q g  _ _  _) fun x8 s6_ => ?_
    refine tb6 ?_ ?_
    · exact ts_X6_distance_b40 E q g  _ _ _ _  _
    · exact ts_X6_distance_b40 E q g  _ _ _ _  _
  · exact ts_X6_distance_b47 E q g   _
def t_X6_distance_b0 (E : zE) (p1 : Int32) (p2 : Int32) (p3 : Int32) (s : twS) : Option (Int32 × twS) :=
  bnd2 (t_X6_isFranchisee E p1 (uSc s 2 (0 : Int32))) fun x6 s4_ =>
  if x6 = 0 then (
    t_X6_distance_b19 E p1 p2 p3 (1 : Int32) s4_
  ) else (
    t_X6_distance_b19 E p1 p2 p3 (0 : Int32) s4_
  )
theorem ts_X6_distance_b0 (E : zE) (q : Nat) (g : zH) (p1 : Int32) (p2 : Int32) (p3 : Int32) (s : twS) : f_X6_distance_b0 E q p1 p2 p3 (tw s q g) = (t_X6_distance_b0 E p1 p2 p3 s).map (zem q g) := by
  unfold f_X6_distance_b0 t_X6_distance_b0
  refine tb1 (tw_pI_2 _ q g _) ?_
  refine tb1 (tw_cko _ q g) ?_
  refine tb5 (ts_X6_isFranchisee E q g  _  _) fun x6 s4_ => ?_
  refine tb6 ?_ ?_
  · exact ts_X6_distance_b19 E q g  _ _ _ _  _
  · exact ts_X6_distance_b19 E q g  _ _ _ _  _
def t_X6_distance (E : zE) (p1 : Int32) (p2 : Int32) (p3 : Int32) (s : twS) : Option (Int32 × twS) :=
  t_X6_distance_b0 E p1 p2 p3 s
theorem ts_X6_distance (E : zE) (q : Nat) (g : zH) (p1 : Int32) (p2 : Int32) (p3 : Int32) (s : twS) : f_X6_distance E q p1 p2 p3 (tw s q g) = (t_X6_distance E p1 p2 p3 s).map (zem q g) := by
  unfold f_X6_distance t_X6_distance
  exact ts_X6_distance_b0 E q g  _ _ _  _
def t_X6_isArea_b43 (E : zE) (s0 : Int32) (s : twS) : Option (Int32 × twS) :=
  (zgd .boolean s0).bind fun _ =>
  some (s0, s)
theorem ts_X6_isArea_b43 (E : zE) (q : Nat) (g : zH) (s0 : Int32) (s : twS) : f_X6_isArea_b43 E s0 (tw s q g) = (t_X6_isArea_b43 E s0 s).map (zem q g) := by
  unfold f_X6_isArea_b43 t_X6_isArea_b43
  refine tb2 rfl fun _ => ?_
  rfl
def t_X6_isArea_b42 (E : zE) (s : twS) : Option (Int32 × twS) :=
  t_X6_isArea_b43 E (0 : Int32) s
theorem ts_X6_isArea_b42 (E : zE) (q : Nat) (g : zH) (s : twS) : f_X6_isArea_b42 E  (tw s q g) = (t_X6_isArea_b42 E  s).map (zem q g) := by
  unfold f_X6_isArea_b42 t_X6_isArea_b42
  exact ts_X6_isArea_b43 E q g  _  _
def t_X6_isArea_b0 (E : zE) (p0 : Int32) (p1 : Int32) (p2 : Int32) (p3 : Int32) (s : twS) : Option (Int32 × twS) :=
  bnd2 (t_X6_isCell E p0 p1 s) fun x3 s1_ =>
  if x3 = 0 then (
    t_X6_isArea_b42 E s1_
  ) else (
    bnd2 (t_X6_inRange E (p2.toInt64) ((p0 + (1 : Int32)).toInt64) (30 : Int64) s1_) fun x7 s5_ =>
    if x7 = 0 then (
      t_X6_isArea_b42 E s5_
    ) else (
      bnd2 (t_X6_inRange E (p3.toInt64) ((p1 + (1 : Int32)).toInt64) (30 : Int64) s5_) fun x11 s9_ =>
      if x11 = 0 then (
        t_X6_isArea_b42 E s9_
      ) else (
        t_X6_isArea_b43 E (1 : Int32) s9_
      )
    )
  )
theorem ts_X6_isArea_b0 (E : zE) (q : Nat) (g : zH) (p0 : Int32) (p1 : Int32) (p2 : Int32) (p3 : Int32) (s : twS) : f_X6_isArea_b0 E p0 p1 p2 p3 (tw s q g) = (t_X6_isArea_b0 E p0 p1 p2 p3 s).map (zem q g) := by
  unfold f_X6_isArea_b0 t_X6_isArea_b0
  refine tb5 (ts_X6_isCell E q g  _ _  _) fun x3 s1_ => ?_
  refine tb6 ?_ ?_
  · exact ts_X6_isArea_b42 E q g   _
  · refine tb5 (ts_X6_inRange E q g  _ _ _  _) fun x7 s5_ => ?_
    refine tb6 ?_ ?_
    · exact ts_X6_isArea_b42 E q g   _
    · refine tb5 (ts_X6_inRange E q g  _ _ _  _) fun x11 s9_ => ?_
      refine tb6 ?_ ?_
      · exact ts_X6_isArea_b42 E q g   _
      · exact ts_X6_isArea_b43 E q g  _  _
def t_X6_isArea (E : zE) (p0 : Int32) (p1 : Int32) (p2 : Int32) (p3 : Int32) (s : twS) : Option (Int32 × twS) :=
  t_X6_isArea_b0 E p0 p1 p2 p3 s
theorem ts_X6_isArea (E : zE) (q : Nat) (g : zH) (p0 : Int32) (p1 : Int32) (p2 : Int32) (p3 : Int32) (s : twS) : f_X6_isArea E p0 p1 p2 p3 (tw s q g) = (t_X6_isArea E p0 p1 p2 p3 s).map (zem q g) := by
  unfold f_X6_isArea t_X6_isArea
  exact ts_X6_isArea_b0 E q g  _ _ _ _  _
def t_X6_of_b0 (E : zE) (p1 : Int32) (p2 : Int32) (s : twS) : Option (Int64 × twS) :=
  (tdL s 1 (((58 : Int32) + ((16 : Int32) * p1)) + p2)).bind fun x3 =>
  some (x3, s)
theorem ts_X6_of_b0 (E : zE) (q : Nat) (g : zH) (p1 : Int32) (p2 : Int32) (s : twS) : f_X6_of_b0 E q p1 p2 (tw s q g) = (t_X6_of_b0 E p1 p2 s).map (zem q g) := by
  unfold f_X6_of_b0 t_X6_of_b0
  refine tb1 (tw_gR_0 _ q g) ?_
  refine tb2 (tw_dL _ q g (by decide) _ ) fun x3 => ?_
  rfl
def t_X6_of (E : zE) (p1 : Int32) (p2 : Int32) (s : twS) : Option (Int64 × twS) :=
  t_X6_of_b0 E p1 p2 s
theorem ts_X6_of (E : zE) (q : Nat) (g : zH) (p1 : Int32) (p2 : Int32) (s : twS) : f_X6_of E q p1 p2 (tw s q g) = (t_X6_of E p1 p2 s).map (zem q g) := by
  unfold f_X6_of t_X6_of
  exact ts_X6_of_b0 E q g  _ _  _
def t_X6_isActive_b16 (E : zE) (s0 : Int32) (s : twS) : Option (Int32 × twS) :=
  (zgd .boolean s0).bind fun _ =>
  some (s0, s)
theorem ts_X6_isActive_b16 (E : zE) (q : Nat) (g : zH) (s0 : Int32) (s : twS) : f_X6_isActive_b16 E s0 (tw s q g) = (t_X6_isActive_b16 E s0 s).map (zem q g) := by
  unfold f_X6_isActive_b16 t_X6_isActive_b16
  refine tb2 rfl fun _ => ?_
  rfl
def t_X6_isActive_b0 (E : zE) (p1 : Int32) (s : twS) : Option (Int32 × twS) :=
  bnd2 (t_X6_of E p1 (3 : Int32) s) fun x4 s2_ =>
  if x4 = (0 : Int64) then (
    t_X6_isActive_b16 E (1 : Int32) s2_
  ) else (
    t_X6_isActive_b16 E (0 : Int32) s2_
  )
theorem ts_X6_isActive_b0 (E : zE) (q : Nat) (g : zH) (p1 : Int32) (s : twS) : f_X6_isActive_b0 E q p1 (tw s q g) = (t_X6_isActive_b0 E p1 s).map (zem q g) := by
  unfold f_X6_isActive_b0 t_X6_isActive_b0
  refine tb1 (tw_cko _ q g) ?_
  refine tb5 (ts_X6_of E q g  _ _  _) fun x4 s2_ => ?_
  refine tb6 ?_ ?_
  · exact ts_X6_isActive_b16 E q g  _  _
  · exact ts_X6_isActive_b16 E q g  _  _
def t_X6_isActive (E : zE) (p1 : Int32) (s : twS) : Option (Int32 × twS) :=
  t_X6_isActive_b0 E p1 s
theorem ts_X6_isActive (E : zE) (q : Nat) (g : zH) (p1 : Int32) (s : twS) : f_X6_isActive E q p1 (tw s q g) = (t_X6_isActive E p1 s).map (zem q g) := by
  unfold f_X6_isActive t_X6_isActive
  exact ts_X6_isActive_b0 E q g  _  _
def t_X6_give_b30 (E : zE) (k2 : Int32 → Int32 → twS → Option (Unit × twS)) (p1 : Int32) (p2 : Int32) (s : twS) : Option (Unit × twS) :=
  k2 p1 (p2 + 1) s
theorem ts_X6_give_b30 (E : zE) (q : Nat) (g : zH) {K2 : Nat → Int32 → Int32 → zH → Option (Unit × zH)} {k2 : Int32 → Int32 → twS → Option (Unit × twS)} (hk2 : ∀ (p1 : Int32) (p2 : Int32) (s : twS), K2 q p1 p2 (tw s q g) = (k2 p1 p2 s).map (zem q g)) (p1 : Int32) (p2 : Int32) (s : twS) : f_X6_give_b30 E K2 q p1 p2 (tw s q g) = (t_X6_give_b30 E k2 p1 p2 s).map (zem q g) := by
  unfold f_X6_give_b30 t_X6_give_b30
  exact hk2 _ _  _
def t_X6_give_l2 (E : zE) : Nat → Int32 → Int32 → twS → Option (Unit × twS)
  | 0, _, _, _ => none
  | n + 1, p1, p2, s =>
    if (900 : Int32) ≤ p2 then (
      some ((), s)
    ) else (
      (tdI s 4 3 p2).bind fun x4 =>
      if x4 = 0 then (
        t_X6_give_b30 E (t_X6_give_l2 E n) p1 p2 s
      ) else (
        (tsL s 1 ((250 : Int32) + p2) (p1.toInt64)).bind fun s9_ =>
        t_X6_give_b30 E (t_X6_give_l2 E n) p1 p2 s9_
      )
    )
theorem ts_X6_give_l2 (E : zE) (q : Nat) (g : zH) : ∀ (n : Nat) (p1 : Int32) (p2 : Int32) (s : twS), f_X6_give_l2 E n q p1 p2 (tw s q g) = (t_X6_give_l2 E n p1 p2 s).map (zem q g) := by
  intro n
  induction n with
  | zero => intros; rfl
  | succ n ih =>
    intro p1 p2 s
    unfold f_X6_give_l2 t_X6_give_l2
    refine tb6 ?_ ?_
    · rfl
    · refine tb1 (tw_gR_4 _ q g) ?_
      refine tb2 (tw_dI _ q g (by decide) _ _ ) fun x4 => ?_
      refine tb6 ?_ ?_
      · exact ts_X6_give_b30 E q g ih  _ _  _
      · refine tb1 (tw_gR_0 _ q g) ?_
        refine tb4 (tw_sL _ q g (by decide) _ _ ) fun s9_ => ?_
        exact ts_X6_give_b30 E q g ih  _ _  _
def t_X6_give_b0 (E : zE) (p1 : Int32) (s : twS) : Option (Unit × twS) :=
  t_X6_give_l2 E E.1 p1 (0 : Int32) s
theorem ts_X6_give_b0 (E : zE) (q : Nat) (g : zH) (p1 : Int32) (s : twS) : f_X6_give_b0 E q p1 (tw s q g) = (t_X6_give_b0 E p1 s).map (zem q g) := by
  unfold f_X6_give_b0 t_X6_give_b0
  exact ts_X6_give_l2 E q g E.1 _ _  _
def t_X6_give (E : zE) (p1 : Int32) (s : twS) : Option (Unit × twS) :=
  t_X6_give_b0 E p1 s
theorem ts_X6_give (E : zE) (q : Nat) (g : zH) (p1 : Int32) (s : twS) : f_X6_give E q p1 (tw s q g) = (t_X6_give E p1 s).map (zem q g) := by
  unfold f_X6_give t_X6_give
  exact ts_X6_give_b0 E q g  _  _
def t_X6_isWithin_b38 (E : zE) (s0 : Int32) (s : twS) : Option (Int32 × twS) :=
  (zgd .boolean s0).bind fun _ =>
  some (s0, s)
theorem ts_X6_isWithin_b38 (E : zE) (q : Nat) (g : zH) (s0 : Int32) (s : twS) : f_X6_isWithin_b38 E s0 (tw s q g) = (t_X6_isWithin_b38 E s0 s).map (zem q g) := by
  unfold f_X6_isWithin_b38 t_X6_isWithin_b38
  refine tb2 rfl fun _ => ?_
  rfl
def t_X6_isWithin_b37 (E : zE) (s : twS) : Option (Int32 × twS) :=
  t_X6_isWithin_b38 E (0 : Int32) s
theorem ts_X6_isWithin_b37 (E : zE) (q : Nat) (g : zH) (s : twS) : f_X6_isWithin_b37 E  (tw s q g) = (t_X6_isWithin_b37 E  s).map (zem q g) := by
  unfold f_X6_isWithin_b37 t_X6_isWithin_b37
  exact ts_X6_isWithin_b38 E q g  _  _
def t_X6_isWithin_b0 (E : zE) (p0 : Int32) (p1 : Int32) (p2 : Int32) (p3 : Int32) (p4 : Int32) (s : twS) : Option (Int32 × twS) :=
  if (p0 - p0 / (30 : Int32) * (30 : Int32)) < p1 then (
    t_X6_isWithin_b37 E s
  ) else (
    if p3 ≤ (p0 - p0 / (30 : Int32) * (30 : Int32)) then (
      t_X6_isWithin_b37 E s
    ) else (
      if (p0 / (30 : Int32)) < p2 then (
        t_X6_isWithin_b37 E s
      ) else (
        if p4 ≤ (p0 / (30 : Int32)) then (
          t_X6_isWithin_b37 E s
        ) else (
          t_X6_isWithin_b38 E (1 : Int32) s
        )
      )
    )
  )
theorem ts_X6_isWithin_b0 (E : zE) (q : Nat) (g : zH) (p0 : Int32) (p1 : Int32) (p2 : Int32) (p3 : Int32) (p4 : Int32) (s : twS) : f_X6_isWithin_b0 E p0 p1 p2 p3 p4 (tw s q g) = (t_X6_isWithin_b0 E p0 p1 p2 p3 p4 s).map (zem q g) := by
  unfold f_X6_isWithin_b0 t_X6_isWithin_b0
  refine tb6 ?_ ?_
  · exact ts_X6_isWithin_b37 E q g   _
  · refine tb6 ?_ ?_
    · exact ts_X6_isWithin_b37 E q g   _
    · refine tb6 ?_ ?_
      · exact ts_X6_isWithin_b37 E q g   _
      · refine tb6 ?_ ?_
        · exact ts_X6_isWithin_b37 E q g   _
        · exact ts_X6_isWithin_b38 E q g  _  _
def t_X6_isWithin (E : zE) (p0 : Int32) (p1 : Int32) (p2 : Int32) (p3 : Int32) (p4 : Int32) (s : twS) : Option (Int32 × twS) :=
  t_X6_isWithin_b0 E p0 p1 p2 p3 p4 s
theorem ts_X6_isWithin (E : zE) (q : Nat) (g : zH) (p0 : Int32) (p1 : Int32) (p2 : Int32) (p3 : Int32) (p4 : Int32) (s : twS) : f_X6_isWithin E p0 p1 p2 p3 p4 (tw s q g) = (t_X6_isWithin E p0 p1 p2 p3 p4 s).map (zem q g) := by
  unfold f_X6_isWithin t_X6_isWithin
  exact ts_X6_isWithin_b0 E q g  _ _ _ _ _  _
def t_X6_ofOutlet_b0 (E : zE) (p1 : Int32) (p2 : Int32) (s : twS) : Option (Int64 × twS) :=
  (tdL s 1 (((186 : Int32) + ((4 : Int32) * p1)) + p2)).bind fun x3 =>
  some (x3, s)
theorem ts_X6_ofOutlet_b0 (E : zE) (q : Nat) (g : zH) (p1 : Int32) (p2 : Int32) (s : twS) : f_X6_ofOutlet_b0 E q p1 p2 (tw s q g) = (t_X6_ofOutlet_b0 E p1 p2 s).map (zem q g) := by
  unfold f_X6_ofOutlet_b0 t_X6_ofOutlet_b0
  refine tb1 (tw_gR_0 _ q g) ?_
  refine tb2 (tw_dL _ q g (by decide) _ ) fun x3 => ?_
  rfl
def t_X6_ofOutlet (E : zE) (p1 : Int32) (p2 : Int32) (s : twS) : Option (Int64 × twS) :=
  t_X6_ofOutlet_b0 E p1 p2 s
theorem ts_X6_ofOutlet (E : zE) (q : Nat) (g : zH) (p1 : Int32) (p2 : Int32) (s : twS) : f_X6_ofOutlet E q p1 p2 (tw s q g) = (t_X6_ofOutlet E p1 p2 s).map (zem q g) := by
  unfold f_X6_ofOutlet t_X6_ofOutlet
  exact ts_X6_ofOutlet_b0 E q g  _ _  _
def t_X6_isOpen_b18 (E : zE) (s0 : Int32) (s : twS) : Option (Int32 × twS) :=
  (zgd .boolean s0).bind fun _ =>
  some (s0, s)
theorem ts_X6_isOpen_b18 (E : zE) (q : Nat) (g : zH) (s0 : Int32) (s : twS) : f_X6_isOpen_b18 E s0 (tw s q g) = (t_X6_isOpen_b18 E s0 s).map (zem q g) := by
  unfold f_X6_isOpen_b18 t_X6_isOpen_b18
  refine tb2 rfl fun _ => ?_
  rfl
def t_X6_isOpen_b0 (E : zE) (p1 : Int32) (s : twS) : Option (Int32 × twS) :=
  bnd2 (t_X6_ofOutlet E p1 (0 : Int32) s) fun x4 s2_ =>
  if x4 = (-1 : Int64) then (
    t_X6_isOpen_b18 E (0 : Int32) s2_
  ) else (
    t_X6_isOpen_b18 E (1 : Int32) s2_
  )
theorem ts_X6_isOpen_b0 (E : zE) (q : Nat) (g : zH) (p1 : Int32) (s : twS) : f_X6_isOpen_b0 E q p1 (tw s q g) = (t_X6_isOpen_b0 E p1 s).map (zem q g) := by
  unfold f_X6_isOpen_b0 t_X6_isOpen_b0
  refine tb1 (tw_cko _ q g) ?_
  refine tb5 (ts_X6_ofOutlet E q g  _ _  _) fun x4 s2_ => ?_
  refine tb6 ?_ ?_
  · exact ts_X6_isOpen_b18 E q g  _  _
  · exact ts_X6_isOpen_b18 E q g  _  _
def t_X6_isOpen (E : zE) (p1 : Int32) (s : twS) : Option (Int32 × twS) :=
  t_X6_isOpen_b0 E p1 s
theorem ts_X6_isOpen (E : zE) (q : Nat) (g : zH) (p1 : Int32) (s : twS) : f_X6_isOpen E q p1 (tw s q g) = (t_X6_isOpen E p1 s).map (zem q g) := by
  unfold f_X6_isOpen t_X6_isOpen
  exact ts_X6_isOpen_b0 E q g  _  _
def t_X6_cellOf_b0 (E : zE) (p1 : Int32) (s : twS) : Option (Int32 × twS) :=
  bnd2 (t_X6_ofOutlet E p1 (2 : Int32) s) fun x4 s2_ =>
  bnd2 (t_X6_ofOutlet E p1 (1 : Int32) s2_) fun x8 s6_ =>
  some (((((30 : Int64) * x4) + x8).toInt32), s6_)
theorem ts_X6_cellOf_b0 (E : zE) (q : Nat) (g : zH) (p1 : Int32) (s : twS) : f_X6_cellOf_b0 E q p1 (tw s q g) = (t_X6_cellOf_b0 E p1 s).map (zem q g) := by
  unfold f_X6_cellOf_b0 t_X6_cellOf_b0
  refine tb1 (tw_cko _ q g) ?_
  refine tb5 (ts_X6_ofOutlet E q g  _ _  _) fun x4 s2_ => ?_
  refine tb1 (tw_cko _ q g) ?_
  refine tb5 (ts_X6_ofOutlet E q g  _ _  _) fun x8 s6_ => ?_
  rfl
def t_X6_cellOf (E : zE) (p1 : Int32) (s : twS) : Option (Int32 × twS) :=
  t_X6_cellOf_b0 E p1 s
theorem ts_X6_cellOf (E : zE) (q : Nat) (g : zH) (p1 : Int32) (s : twS) : f_X6_cellOf E q p1 (tw s q g) = (t_X6_cellOf E p1 s).map (zem q g) := by
  unfold f_X6_cellOf t_X6_cellOf
  exact ts_X6_cellOf_b0 E q g  _  _
def t_X6_hasOutlet_b33 (E : zE) (k2 : Int32 → Int32 → twS → Option (Int32 × twS)) (p1 : Int32) (p2 : Int32) (s : twS) : Option (Int32 × twS) :=
  k2 p1 (p2 + 1) s
theorem ts_X6_hasOutlet_b33 (E : zE) (q : Nat) (g : zH) {K2 : Nat → Int32 → Int32 → zH → Option (Int32 × zH)} {k2 : Int32 → Int32 → twS → Option (Int32 × twS)} (hk2 : ∀ (p1 : Int32) (p2 : Int32) (s : twS), K2 q p1 p2 (tw s q g) = (k2 p1 p2 s).map (zem q g)) (p1 : Int32) (p2 : Int32) (s : twS) : f_X6_hasOutlet_b33 E K2 q p1 p2 (tw s q g) = (t_X6_hasOutlet_b33 E k2 p1 p2 s).map (zem q g) := by
  unfold f_X6_hasOutlet_b33 t_X6_hasOutlet_b33
  exact hk2 _ _  _
def t_X6_hasOutlet_l2 (E : zE) : Nat → Int32 → Int32 → twS → Option (Int32 × twS)
  | 0, _, _, _ => none
  | n + 1, p1, p2, s =>
    (tdL s 1 (3 : Int32)).bind fun x3 =>
    if x3 ≤ (p2.toInt64) then (
      some ((0 : Int32), s)
    ) else (
      bnd2 (t_X6_isOpen E p2 s) fun x9 s7_ =>
      if x9 = 0 then (
        t_X6_hasOutlet_b33 E (t_X6_hasOutlet_l2 E n) p1 p2 s7_
      ) else (
        bnd2 (t_X6_cellOf E p2 s7_) fun x14 s12_ =>
        if x14 = p1 then (
          some ((1 : Int32), s12_)
        ) else (
          t_X6_hasOutlet_b33 E (t_X6_hasOutlet_l2 E n) p1 p2 s12_
        )
      )
    )
theorem ts_X6_hasOutlet_l2 (E : zE) (q : Nat) (g : zH) : ∀ (n : Nat) (p1 : Int32) (p2 : Int32) (s : twS), f_X6_hasOutlet_l2 E n q p1 p2 (tw s q g) = (t_X6_hasOutlet_l2 E n p1 p2 s).map (zem q g) := by
  intro n
  induction n with
  | zero => intros; rfl
  | succ n ih =>
    intro p1 p2 s
    unfold f_X6_hasOutlet_l2 t_X6_hasOutlet_l2
    refine tb1 (tw_gR_0 _ q g) ?_
    refine tb2 (tw_dL _ q g (by decide) _ ) fun x3 => ?_
    refine tb6 ?_ ?_
    · rfl
    · refine tb1 (tw_cko _ q g) ?_
      refine tb5 (ts_X6_isOpen E q g  _  _) fun x9 s7_ => ?_
      refine tb6 ?_ ?_
      · exact ts_X6_hasOutlet_b33 E q g ih  _ _  _
      · refine tb1 (tw_cko _ q g) ?_
        refine tb5 (ts_X6_cellOf E q g  _  _) fun x14 s12_ => ?_
        refine tb6 ?_ ?_
        · rfl
        · exact ts_X6_hasOutlet_b33 E q g ih  _ _  _
def t_X6_hasOutlet_b0 (E : zE) (p1 : Int32) (s : twS) : Option (Int32 × twS) :=
  t_X6_hasOutlet_l2 E E.1 p1 (0 : Int32) s
theorem ts_X6_hasOutlet_b0 (E : zE) (q : Nat) (g : zH) (p1 : Int32) (s : twS) : f_X6_hasOutlet_b0 E q p1 (tw s q g) = (t_X6_hasOutlet_b0 E p1 s).map (zem q g) := by
  unfold f_X6_hasOutlet_b0 t_X6_hasOutlet_b0
  exact ts_X6_hasOutlet_l2 E q g E.1 _ _  _
def t_X6_hasOutlet (E : zE) (p1 : Int32) (s : twS) : Option (Int32 × twS) :=
  t_X6_hasOutlet_b0 E p1 s
theorem ts_X6_hasOutlet (E : zE) (q : Nat) (g : zH) (p1 : Int32) (s : twS) : f_X6_hasOutlet E q p1 (tw s q g) = (t_X6_hasOutlet E p1 s).map (zem q g) := by
  unfold f_X6_hasOutlet t_X6_hasOutlet
  exact ts_X6_hasOutlet_b0 E q g  _  _
def t_X6_cede_b65 (E : zE) (s : twS) : Option (Int32 × twS) :=
  some ((0 : Int32), s)
theorem ts_X6_cede_b65 (E : zE) (q : Nat) (g : zH) (s : twS) : f_X6_cede_b65 E  (tw s q g) = (t_X6_cede_b65 E  s).map (zem q g) := by
  unfold f_X6_cede_b65 t_X6_cede_b65
  rfl
def t_X6_cede_b83 (E : zE) (s : twS) : Option (Int32 × twS) :=
  some ((-2 : Int32), s)
theorem ts_X6_cede_b83 (E : zE) (q : Nat) (g : zH) (s : twS) : f_X6_cede_b83 E  (tw s q g) = (t_X6_cede_b83 E  s).map (zem q g) := by
  unfold f_X6_cede_b83 t_X6_cede_b83
  rfl
def t_X6_cede_b241 (E : zE) (p1 : Int32) (s : twS) : Option (Int32 × twS) :=
  bnd2 (t_X6_give E p1 s) fun x4 s2_ =>
  some ((-2 : Int32), s2_)
theorem ts_X6_cede_b241 (E : zE) (q : Nat) (g : zH) (p1 : Int32) (s : twS) : f_X6_cede_b241 E q p1 (tw s q g) = (t_X6_cede_b241 E p1 s).map (zem q g) := by
  unfold f_X6_cede_b241 t_X6_cede_b241
  refine tb1 (tw_cko _ q g) ?_
  refine tb5 (ts_X6_give E q g  _  _) fun x4 s2_ => ?_
  rfl
def t_X6_cede_b193 (E : zE) (k95 : Int32 → Int32 → Int32 → Int32 → Int32 → Int32 → Int32 → Int32 → Int32 → twS → Option (Int32 × twS)) (p1 : Int32) (p2 : Int32) (p3 : Int32) (p4 : Int32) (p5 : Int32) (p6 : Int32) (p7 : Int32) (p9 : Int32) (s0 : Int32) (s1 : Int32) (s : twS) : Option (Int32 × twS) :=
  k95 p1 p2 p3 p4 p5 p6 p7 (s0 ||| s1) (p9 + 1) s
theorem ts_X6_cede_b193 (E : zE) (q : Nat) (g : zH) {K95 : Nat → Int32 → Int32 → Int32 → Int32 → Int32 → Int32 → Int32 → Int32 → Int32 → zH → Option (Int32 × zH)} {k95 : Int32 → Int32 → Int32 → Int32 → Int32 → Int32 → Int32 → Int32 → Int32 → twS → Option (Int32 × twS)} (hk95 : ∀ (p1 : Int32) (p2 : Int32) (p3 : Int32) (p4 : Int32) (p5 : Int32) (p6 : Int32) (p7 : Int32) (p8 : Int32) (p9 : Int32) (s : twS), K95 q p1 p2 p3 p4 p5 p6 p7 p8 p9 (tw s q g) = (k95 p1 p2 p3 p4 p5 p6 p7 p8 p9 s).map (zem q g)) (p1 : Int32) (p2 : Int32) (p3 : Int32) (p4 : Int32) (p5 : Int32) (p6 : Int32) (p7 : Int32) (p9 : Int32) (s0 : Int32) (s1 : Int32) (s : twS) : f_X6_cede_b193 E K95 q p1 p2 p3 p4 p5 p6 p7 p9 s0 s1 (tw s q g) = (t_X6_cede_b193 E k95 p1 p2 p3 p4 p5 p6 p7 p9 s0 s1 s).map (zem q g) := by
  unfold f_X6_cede_b193 t_X6_cede_b193
  exact hk95 _ _ _ _ _ _ _ _ _  _
def t_X6_cede_b192 (E : zE) (k95 : Int32 → Int32 → Int32 → Int32 → Int32 → Int32 → Int32 → Int32 → Int32 → twS → Option (Int32 × twS)) (p1 : Int32) (p2 : Int32) (p3 : Int32) (p4 : Int32) (p5 : Int32) (p6 : Int32) (p7 : Int32) (p9 : Int32) (s0 : Int32) (s : twS) : Option (Int32 × twS) :=
  t_X6_cede_b193 E k95 p1 p2 p3 p4 p5 p6 p7 p9 s0 (0 : Int32) s
theorem ts_X6_cede_b192 (E : zE) (q : Nat) (g : zH) {K95 : Nat → Int32 → Int32 → Int32 → Int32 → Int32 → Int32 → Int32 → Int32 → Int32 → zH → Option (Int32 × zH)} {k95 : Int32 → Int32 → Int32 → Int32 → Int32 → Int32 → Int32 → Int32 → Int32 → twS → Option (Int32 × twS)} (hk95 : ∀ (p1 : Int32) (p2 : Int32) (p3 : Int32) (p4 : Int32) (p5 : Int32) (p6 : Int32) (p7 : Int32) (p8 : Int32) (p9 : Int32) (s : twS), K95 q p1 p2 p3 p4 p5 p6 p7 p8 p9 (tw s q g) = (k95 p1 p2 p3 p4 p5 p6 p7 p8 p9 s).map (zem q g)) (p1 : Int32) (p2 : Int32) (p3 : Int32) (p4 : Int32) (p5 : Int32) (p6 : Int32) (p7 : Int32) (p9 : Int32) (s0 : Int32) (s : twS) : f_X6_cede_b192 E K95 q p1 p2 p3 p4 p5 p6 p7 p9 s0 (tw s q g) = (t_X6_cede_b192 E k95 p1 p2 p3 p4 p5 p6 p7 p9 s0 s).map (zem q g) := by
  unfold f_X6_cede_b192 t_X6_cede_b192
  exact ts_X6_cede_b193 E q g hk95  _ _ _ _ _ _ _ _ _ _  _
def t_X6_cede_b164 (E : zE) (k95 : Int32 → Int32 → Int32 → Int32 → Int32 → Int32 → Int32 → Int32 → Int32 → twS → Option (Int32 × twS)) (p1 : Int32) (p2 : Int32) (p3 : Int32) (p4 : Int32) (p5 : Int32) (p6 : Int32) (p8 : Int32) (p9 : Int32) (s0 : Int32) (s1 : Int32) (s : twS) : Option (Int32 × twS) :=
  (tdI s 4 3 p9).bind fun x3 =>
  if x3 = 0 then (
    t_X6_cede_b192 E k95 p1 p2 p3 p4 p5 p6 (s0 + s1) p9 p8 s
  ) else (
    bnd2 (t_X6_hasOutlet E p9 s) fun x9 s7_ =>
    if x9 = 0 then (
      t_X6_cede_b192 E k95 p1 p2 p3 p4 p5 p6 (s0 + s1) p9 p8 s7_
    ) else (
      t_X6_cede_b193 E k95 p1 p2 p3 p4 p5 p6 (s0 + s1) p9 p8 (1 : Int32) s7_
    )
  )
theorem ts_X6_cede_b164 (E : zE) (q : Nat) (g : zH) {K95 : Nat → Int32 → Int32 → Int32 → Int32 → Int32 → Int32 → Int32 → Int32 → Int32 → zH → Option (Int32 × zH)} {k95 : Int32 → Int32 → Int32 → Int32 → Int32 → Int32 → Int32 → Int32 → Int32 → twS → Option (Int32 × twS)} (hk95 : ∀ (p1 : Int32) (p2 : Int32) (p3 : Int32) (p4 : Int32) (p5 : Int32) (p6 : Int32) (p7 : Int32) (p8 : Int32) (p9 : Int32) (s : twS), K95 q p1 p2 p3 p4 p5 p6 p7 p8 p9 (tw s q g) = (k95 p1 p2 p3 p4 p5 p6 p7 p8 p9 s).map (zem q g)) (p1 : Int32) (p2 : Int32) (p3 : Int32) (p4 : Int32) (p5 : Int32) (p6 : Int32) (p8 : Int32) (p9 : Int32) (s0 : Int32) (s1 : Int32) (s : twS) : f_X6_cede_b164 E K95 q p1 p2 p3 p4 p5 p6 p8 p9 s0 s1 (tw s q g) = (t_X6_cede_b164 E k95 p1 p2 p3 p4 p5 p6 p8 p9 s0 s1 s).map (zem q g) := by
  unfold f_X6_cede_b164 t_X6_cede_b164
  refine tb1 (tw_gR_4 _ q g) ?_
  refine tb2 (tw_dI _ q g (by decide) _ _ ) fun x3 => ?_
  refine tb6 ?_ ?_
  · exact ts_X6_cede_b192 E q g hk95  _ _ _ _ _ _ _ _ _  _
  · refine tb1 (tw_cko _ q g) ?_
    refine tb5 (ts_X6_hasOutlet E q g  _  _) fun x9 s7_ => ?_
    refine tb6 ?_ ?_
    · exact ts_X6_cede_b192 E q g hk95  _ _ _ _ _ _ _ _ _  _
    · exact ts_X6_cede_b193 E q g hk95  _ _ _ _ _ _ _ _ _ _  _
def t_X6_cede_b146 (E : zE) (k95 : Int32 → Int32 → Int32 → Int32 → Int32 → Int32 → Int32 → Int32 → Int32 → twS → Option (Int32 × twS)) (p1 : Int32) (p2 : Int32) (p3 : Int32) (p4 : Int32) (p5 : Int32) (p6 : Int32) (p7 : Int32) (p8 : Int32) (p9 : Int32) (s0 : Nat) (s1 : Int32) (s2 : Int32) (s : twS) : Option (Int32 × twS) :=
  (zgd .boolean s2).bind fun _ =>
  (tsI s s0 3 s1 s2).bind fun s2_ =>
  (tdI s2_ 4 3 p9).bind fun x6 =>
  if x6 = 0 then (
    t_X6_cede_b164 E k95 p1 p2 p3 p4 p5 p6 p8 p9 p7 (0 : Int32) s2_
  ) else (
    t_X6_cede_b164 E k95 p1 p2 p3 p4 p5 p6 p8 p9 p7 (1 : Int32) s2_
  )
theorem ts_X6_cede_b146 (E : zE) (q : Nat) (g : zH) {K95 : Nat → Int32 → Int32 → Int32 → Int32 → Int32 → Int32 → Int32 → Int32 → Int32 → zH → Option (Int32 × zH)} {k95 : Int32 → Int32 → Int32 → Int32 → Int32 → Int32 → Int32 → Int32 → Int32 → twS → Option (Int32 × twS)} (hk95 : ∀ (p1 : Int32) (p2 : Int32) (p3 : Int32) (p4 : Int32) (p5 : Int32) (p6 : Int32) (p7 : Int32) (p8 : Int32) (p9 : Int32) (s : twS), K95 q p1 p2 p3 p4 p5 p6 p7 p8 p9 (tw s q g) = (k95 p1 p2 p3 p4 p5 p6 p7 p8 p9 s).map (zem q g)) (p1 : Int32) (p2 : Int32) (p3 : Int32) (p4 : Int32) (p5 : Int32) (p6 : Int32) (p7 : Int32) (p8 : Int32) (p9 : Int32) (s0 : Nat) (s1 : Int32) (s2 : Int32) (h_s0 : s0 < 10) (s : twS) : f_X6_cede_b146 E K95 q p1 p2 p3 p4 p5 p6 p7 p8 p9 (q + s0) s1 s2 (tw s q g) = (t_X6_cede_b146 E k95 p1 p2 p3 p4 p5 p6 p7 p8 p9 s0 s1 s2 s).map (zem q g) := by
  unfold f_X6_cede_b146 t_X6_cede_b146
  refine tb2 rfl fun _ => ?_
  refine tb4 (tw_sI _ q g h_s0 _ _ _ ) fun s2_ => ?_
  refine tb1 (tw_gR_4 _ q g) ?_
  refine tb2 (tw_dI _ q g (by decide) _ _ ) fun x6 => ?_
  refine tb6 ?_ ?_
  · exact ts_X6_cede_b164 E q g hk95  _ _ _ _ _ _ _ _ _ _  _
  · exact ts_X6_cede_b164 E q g hk95  _ _ _ _ _ _ _ _ _ _  _
def t_X6_cede_b145 (E : zE) (k95 : Int32 → Int32 → Int32 → Int32 → Int32 → Int32 → Int32 → Int32 → Int32 → twS → Option (Int32 × twS)) (p1 : Int32) (p2 : Int32) (p3 : Int32) (p4 : Int32) (p5 : Int32) (p6 : Int32) (p7 : Int32) (p8 : Int32) (p9 : Int32) (s0 : Nat) (s1 : Int32) (s : twS) : Option (Int32 × twS) :=
  t_X6_cede_b146 E k95 p1 p2 p3 p4 p5 p6 p7 p8 p9 s0 s1 (0 : Int32) s
theorem ts_X6_cede_b145 (E : zE) (q : Nat) (g : zH) {K95 : Nat → Int32 → Int32 → Int32 → Int32 → Int32 → Int32 → Int32 → Int32 → Int32 → zH → Option (Int32 × zH)} {k95 : Int32 → Int32 → Int32 → Int32 → Int32 → Int32 → Int32 → Int32 → Int32 → twS → Option (Int32 × twS)} (hk95 : ∀ (p1 : Int32) (p2 : Int32) (p3 : Int32) (p4 : Int32) (p5 : Int32) (p6 : Int32) (p7 : Int32) (p8 : Int32) (p9 : Int32) (s : twS), K95 q p1 p2 p3 p4 p5 p6 p7 p8 p9 (tw s q g) = (k95 p1 p2 p3 p4 p5 p6 p7 p8 p9 s).map (zem q g)) (p1 : Int32) (p2 : Int32) (p3 : Int32) (p4 : Int32) (p5 : Int32) (p6 : Int32) (p7 : Int32) (p8 : Int32) (p9 : Int32) (s0 : Nat) (s1 : Int32) (h_s0 : s0 < 10) (s : twS) : f_X6_cede_b145 E K95 q p1 p2 p3 p4 p5 p6 p7 p8 p9 (q + s0) s1 (tw s q g) = (t_X6_cede_b145 E k95 p1 p2 p3 p4 p5 p6 p7 p8 p9 s0 s1 s).map (zem q g) := by
  unfold f_X6_cede_b145 t_X6_cede_b145
  exact ts_X6_cede_b146 E q g hk95  _ _ _ _ _ _ _ _ _ _ _ _ h_s0 _
def t_X6_cede_l95 (E : zE) : Nat → Int32 → Int32 → Int32 → Int32 → Int32 → Int32 → Int32 → Int32 → Int32 → twS → Option (Int32 × twS)
  | 0, _, _, _, _, _, _, _, _, _, _ => none
  | n + 1, p1, p2, p3, p4, p5, p6, p7, p8, p9, s =>
    if (900 : Int32) ≤ p9 then (
      if p7 = 0 then (
        some ((0 : Int32), s)
      ) else (
        if p8 = 0 then (
          bnd2 (t_X6_give E p2 s) fun x7 s5_ =>
          bnd2 (t_X6_connected E p1 s5_) fun x11 s9_ =>
          if x11 = 0 then (
            t_X6_cede_b241 E p1 s9_
          ) else (
            bnd2 (t_X6_connected E p2 s9_) fun x16 s14_ =>
            if x16 = 0 then (
              t_X6_cede_b241 E p1 s14_
            ) else (
              some (p7, s14_)
            )
          )
        ) else (
          some ((-2 : Int32), s)
        )
      )
    ) else (
      (tdL s 1 ((250 : Int32) + p9)).bind fun x22 =>
      if x22 = (p1.toInt64) then (
        bnd2 (t_X6_isWithin E p9 p3 p4 p5 p6 s) fun x27 s25_ =>
        if x27 = 0 then (
          t_X6_cede_b145 E (t_X6_cede_l95 E n) p1 p2 p3 p4 p5 p6 p7 p8 p9 4 p9 s25_
        ) else (
          t_X6_cede_b146 E (t_X6_cede_l95 E n) p1 p2 p3 p4 p5 p6 p7 p8 p9 4 p9 (1 : Int32) s25_
        )
      ) else (
        t_X6_cede_b145 E (t_X6_cede_l95 E n) p1 p2 p3 p4 p5 p6 p7 p8 p9 4 p9 s
      )
    )
theorem ts_X6_cede_l95 (E : zE) (q : Nat) (g : zH) : ∀ (n : Nat) (p1 : Int32) (p2 : Int32) (p3 : Int32) (p4 : Int32) (p5 : Int32) (p6 : Int32) (p7 : Int32) (p8 : Int32) (p9 : Int32) (s : twS), f_X6_cede_l95 E n q p1 p2 p3 p4 p5 p6 p7 p8 p9 (tw s q g) = (t_X6_cede_l95 E n p1 p2 p3 p4 p5 p6 p7 p8 p9 s).map (zem q g) := by
  intro n
  induction n with
  | zero => intros; rfl
  | succ n ih =>
    intro p1 p2 p3 p4 p5 p6 p7 p8 p9 s
    unfold f_X6_cede_l95 t_X6_cede_l95
    refine tb6 ?_ ?_
    · refine tb6 ?_ ?_
      · rfl
      · refine tb6 ?_ ?_
        · refine tb1 (tw_cko _ q g) ?_
          refine tb5 (ts_X6_give E q g  _  _) fun x7 s5_ => ?_
          refine tb1 (tw_cko _ q g) ?_
          refine tb5 (ts_X6_connected E q g  _  _) fun x11 s9_ => ?_
          refine tb6 ?_ ?_
          · exact ts_X6_cede_b241 E q g  _  _
          · refine tb1 (tw_cko _ q g) ?_
            refine tb5 (ts_X6_connected E q g  _  _) fun x16 s14_ => ?_
            refine tb6 ?_ ?_
            · exact ts_X6_cede_b241 E q g  _  _
            · rfl
        · rfl
    · refine tb1 (tw_gR_4 _ q g) ?_
      refine tb1 (tw_gR_0 _ q g) ?_
      refine tb2 (tw_dL _ q g (by decide) _ ) fun x22 => ?_
      refine tb6 ?_ ?_
      · refine tb5 (ts_X6_isWithin E q g  _ _ _ _ _  _) fun x27 s25_ => ?_
        refine tb6 ?_ ?_
        · exact ts_X6_cede_b145 E q g ih  _ _ _ _ _ _ _ _ _ _ _ (by decide) _
        · exact ts_X6_cede_b146 E q g ih  _ _ _ _ _ _ _ _ _ _ _ _ (by decide) _
      · exact ts_X6_cede_b145 E q g ih  _ _ _ _ _ _ _ _ _ _ _ (by decide) _
def t_X6_cede_b58 (E : zE) (p1 : Int32) (p2 : Int32) (p3 : Int32) (p4 : Int32) (p5 : Int32) (p6 : Int32) (s1 : Int32) (s : twS) : Option (Int32 × twS) :=
  bnd2 (t_X6_throwsIf E s1 (2 : Int32) s) fun x4 s2_ =>
  if x4 = 0 then (
    bnd2 (t_X6_isActive E p1 s2_) fun x9 s7_ =>
    if x9 = 0 then (
      t_X6_cede_b83 E s7_
    ) else (
      bnd2 (t_X6_isActive E p2 s7_) fun x14 s12_ =>
      if x14 = 0 then (
        t_X6_cede_b83 E s12_
      ) else (
        t_X6_cede_l95 E E.1 p1 p2 p3 p4 p5 p6 (0 : Int32) (0 : Int32) (0 : Int32) s12_
      )
    )
  ) else (
    t_X6_cede_b65 E s2_
  )
theorem ts_X6_cede_b58 (E : zE) (q : Nat) (g : zH) (p1 : Int32) (p2 : Int32) (p3 : Int32) (p4 : Int32) (p5 : Int32) (p6 : Int32) (s1 : Int32) (s : twS) : f_X6_cede_b58 E q p1 p2 p3 p4 p5 p6 q s1 (tw s q g) = (t_X6_cede_b58 E p1 p2 p3 p4 p5 p6 s1 s).map (zem q g) := by
  unfold f_X6_cede_b58 t_X6_cede_b58
  refine tb1 (tw_cko _ q g) ?_
  refine tb5 (ts_X6_throwsIf E q g  _ _  _) fun x4 s2_ => ?_
  refine tb6 ?_ ?_
  · refine tb1 (tw_cko _ q g) ?_
    refine tb5 (ts_X6_isActive E q g  _  _) fun x9 s7_ => ?_
    refine tb6 ?_ ?_
    · exact ts_X6_cede_b83 E q g   _
    · refine tb1 (tw_cko _ q g) ?_
      refine tb5 (ts_X6_isActive E q g  _  _) fun x14 s12_ => ?_
      refine tb6 ?_ ?_
      · exact ts_X6_cede_b83 E q g   _
      · exact ts_X6_cede_l95 E q g E.1 _ _ _ _ _ _ _ _ _  _
  · exact ts_X6_cede_b65 E q g   _
def t_X6_cede_b53 (E : zE) (p1 : Int32) (p2 : Int32) (p3 : Int32) (p4 : Int32) (p5 : Int32) (p6 : Int32) (s : twS) : Option (Int32 × twS) :=
  t_X6_cede_b58 E p1 p2 p3 p4 p5 p6 (1 : Int32) s
theorem ts_X6_cede_b53 (E : zE) (q : Nat) (g : zH) (p1 : Int32) (p2 : Int32) (p3 : Int32) (p4 : Int32) (p5 : Int32) (p6 : Int32) (s : twS) : f_X6_cede_b53 E q p1 p2 p3 p4 p5 p6 q (tw s q g) = (t_X6_cede_b53 E p1 p2 p3 p4 p5 p6 s).map (zem q g) := by
  unfold f_X6_cede_b53 t_X6_cede_b53
  exact ts_X6_cede_b58 E q g  _ _ _ _ _ _ _  _
def t_X6_cede_b27 (E : zE) (p1 : Int32) (p2 : Int32) (p3 : Int32) (p4 : Int32) (p5 : Int32) (p6 : Int32) (s1 : Int32) (s : twS) : Option (Int32 × twS) :=
  bnd2 (t_X6_throwsIf E s1 (1 : Int32) s) fun x4 s2_ =>
  if x4 = 0 then (
    if p1 = p2 then (
      t_X6_cede_b53 E p1 p2 p3 p4 p5 p6 s2_
    ) else (
      bnd2 (t_X6_isArea E p3 p4 p5 p6 s2_) fun x9 s7_ =>
      if x9 = 0 then (
        t_X6_cede_b53 E p1 p2 p3 p4 p5 p6 s7_
      ) else (
        t_X6_cede_b58 E p1 p2 p3 p4 p5 p6 (0 : Int32) s7_
      )
    )
  ) else (
    t_X6_cede_b65 E s2_
  )
theorem ts_X6_cede_b27 (E : zE) (q : Nat) (g : zH) (p1 : Int32) (p2 : Int32) (p3 : Int32) (p4 : Int32) (p5 : Int32) (p6 : Int32) (s1 : Int32) (s : twS) : f_X6_cede_b27 E q p1 p2 p3 p4 p5 p6 q s1 (tw s q g) = (t_X6_cede_b27 E p1 p2 p3 p4 p5 p6 s1 s).map (zem q g) := by
  unfold f_X6_cede_b27 t_X6_cede_b27
  refine tb1 (tw_cko _ q g) ?_
  refine tb5 (ts_X6_throwsIf E q g  _ _  _) fun x4 s2_ => ?_
  refine tb6 ?_ ?_
  · refine tb6 ?_ ?_
    · exact ts_X6_cede_b53 E q g  _ _ _ _ _ _  _
    · refine tb5 (ts_X6_isArea E q g  _ _ _ _  _) fun x9 s7_ => ?_
      refine tb6 ?_ ?_
      · exact ts_X6_cede_b53 E q g  _ _ _ _ _ _  _
      · exact ts_X6_cede_b58 E q g  _ _ _ _ _ _ _  _
  · exact ts_X6_cede_b65 E q g   _
def t_X6_cede_b22 (E : zE) (p1 : Int32) (p2 : Int32) (p3 : Int32) (p4 : Int32) (p5 : Int32) (p6 : Int32) (s : twS) : Option (Int32 × twS) :=
  t_X6_cede_b27 E p1 p2 p3 p4 p5 p6 (1 : Int32) s
theorem ts_X6_cede_b22 (E : zE) (q : Nat) (g : zH) (p1 : Int32) (p2 : Int32) (p3 : Int32) (p4 : Int32) (p5 : Int32) (p6 : Int32) (s : twS) : f_X6_cede_b22 E q p1 p2 p3 p4 p5 p6 q (tw s q g) = (t_X6_cede_b22 E p1 p2 p3 p4 p5 p6 s).map (zem q g) := by
  unfold f_X6_cede_b22 t_X6_cede_b22
  exact ts_X6_cede_b27 E q g  _ _ _ _ _ _ _  _
def t_X6_cede_b0 (E : zE) (p1 : Int32) (p2 : Int32) (p3 : Int32) (p4 : Int32) (p5 : Int32) (p6 : Int32) (s : twS) : Option (Int32 × twS) :=
  bnd2 (t_X6_isFranchisee E p1 (uSc s 2 (0 : Int32))) fun x6 s4_ =>
  if x6 = 0 then (
    t_X6_cede_b22 E p1 p2 p3 p4 p5 p6 s4_
  ) else (
    bnd2 (t_X6_isFranchisee E p2 s4_) fun x11 s9_ =>
    if x11 = 0 then (
      t_X6_cede_b22 E p1 p2 p3 p4 p5 p6 s9_
    ) else (
      t_X6_cede_b27 E p1 p2 p3 p4 p5 p6 (0 : Int32) s9_
    )
  )
theorem ts_X6_cede_b0 (E : zE) (q : Nat) (g : zH) (p1 : Int32) (p2 : Int32) (p3 : Int32) (p4 : Int32) (p5 : Int32) (p6 : Int32) (s : twS) : f_X6_cede_b0 E q p1 p2 p3 p4 p5 p6 (tw s q g) = (t_X6_cede_b0 E p1 p2 p3 p4 p5 p6 s).map (zem q g) := by
  unfold f_X6_cede_b0 t_X6_cede_b0
  refine tb1 (tw_pI_2 _ q g _) ?_
  refine tb1 (tw_cko _ q g) ?_
  refine tb5 (ts_X6_isFranchisee E q g  _  _) fun x6 s4_ => ?_
  refine tb6 ?_ ?_
  · exact ts_X6_cede_b22 E q g  _ _ _ _ _ _  _
  · refine tb1 (tw_cko _ q g) ?_
    refine tb5 (ts_X6_isFranchisee E q g  _  _) fun x11 s9_ => ?_
    refine tb6 ?_ ?_
    · exact ts_X6_cede_b22 E q g  _ _ _ _ _ _  _
    · exact ts_X6_cede_b27 E q g  _ _ _ _ _ _ _  _
def t_X6_cede (E : zE) (p1 : Int32) (p2 : Int32) (p3 : Int32) (p4 : Int32) (p5 : Int32) (p6 : Int32) (s : twS) : Option (Int32 × twS) :=
  t_X6_cede_b0 E p1 p2 p3 p4 p5 p6 s
theorem ts_X6_cede (E : zE) (q : Nat) (g : zH) (p1 : Int32) (p2 : Int32) (p3 : Int32) (p4 : Int32) (p5 : Int32) (p6 : Int32) (s : twS) : f_X6_cede E q p1 p2 p3 p4 p5 p6 (tw s q g) = (t_X6_cede E p1 p2 p3 p4 p5 p6 s).map (zem q g) := by
  unfold f_X6_cede t_X6_cede
  exact ts_X6_cede_b0 E q g  _ _ _ _ _ _  _
def t_X6_isOutlet_b0 (E : zE) (p1 : Int32) (s : twS) : Option (Int32 × twS) :=
  (tdL s 1 (3 : Int32)).bind fun x3 =>
  bnd2 (t_X6_inRange E (p1.toInt64) (0 : Int64) (x3 - (1 : Int64)) s) fun x7 s5_ =>
  (zgd .boolean x7).bind fun _ =>
  some (x7, s5_)
theorem ts_X6_isOutlet_b0 (E : zE) (q : Nat) (g : zH) (p1 : Int32) (s : twS) : f_X6_isOutlet_b0 E q p1 (tw s q g) = (t_X6_isOutlet_b0 E p1 s).map (zem q g) := by
  unfold f_X6_isOutlet_b0 t_X6_isOutlet_b0
  refine tb1 (tw_gR_0 _ q g) ?_
  refine tb2 (tw_dL _ q g (by decide) _ ) fun x3 => ?_
  refine tb5 (ts_X6_inRange E q g  _ _ _  _) fun x7 s5_ => ?_
  refine tb2 rfl fun _ => ?_
  rfl
def t_X6_isOutlet (E : zE) (p1 : Int32) (s : twS) : Option (Int32 × twS) :=
  t_X6_isOutlet_b0 E p1 s
theorem ts_X6_isOutlet (E : zE) (q : Nat) (g : zH) (p1 : Int32) (s : twS) : f_X6_isOutlet E q p1 (tw s q g) = (t_X6_isOutlet E p1 s).map (zem q g) := by
  unfold f_X6_isOutlet t_X6_isOutlet
  exact ts_X6_isOutlet_b0 E q g  _  _
def t_X6_outletOwner_b37 (E : zE) (s0 : Int32) (s : twS) : Option (Int32 × twS) :=
  some (s0, s)
theorem ts_X6_outletOwner_b37 (E : zE) (q : Nat) (g : zH) (s0 : Int32) (s : twS) : f_X6_outletOwner_b37 E s0 (tw s q g) = (t_X6_outletOwner_b37 E s0 s).map (zem q g) := by
  unfold f_X6_outletOwner_b37 t_X6_outletOwner_b37
  rfl
def t_X6_outletOwner_b19 (E : zE) (p1 : Int32) (s1 : Int32) (s : twS) : Option (Int32 × twS) :=
  bnd2 (t_X6_throwsIf E s1 (1 : Int32) s) fun x4 s2_ =>
  if x4 = 0 then (
    bnd2 (t_X6_ofOutlet E p1 (0 : Int32) s2_) fun x9 s7_ =>
    t_X6_outletOwner_b37 E (x9.toInt32) s7_
  ) else (
    t_X6_outletOwner_b37 E (0 : Int32) s2_
  )
theorem ts_X6_outletOwner_b19 (E : zE) (q : Nat) (g : zH) (p1 : Int32) (s1 : Int32) (s : twS) : f_X6_outletOwner_b19 E q p1 q s1 (tw s q g) = (t_X6_outletOwner_b19 E p1 s1 s).map (zem q g) := by
  unfold f_X6_outletOwner_b19 t_X6_outletOwner_b19
  refine tb1 (tw_cko _ q g) ?_
  refine tb5 (ts_X6_throwsIf E q g  _ _  _) fun x4 s2_ => ?_
  refine tb6 ?_ ?_
  · refine tb1 (tw_cko _ q g) ?_
    refine tb5 (ts_X6_ofOutlet E q g  _ _  _) fun x9 s7_ => ?_
    exact ts_X6_outletOwner_b37 E q g  _  _
  · exact ts_X6_outletOwner_b37 E q g  _  _
def t_X6_outletOwner_b0 (E : zE) (p1 : Int32) (s : twS) : Option (Int32 × twS) :=
  bnd2 (t_X6_isOutlet E p1 (uSc s 2 (0 : Int32))) fun x6 s4_ =>
  if x6 = 0 then (
    t_X6_outletOwner_b19 E p1 (1 : Int32) s4_
  ) else (
    t_X6_outletOwner_b19 E p1 (0 : Int32) s4_
  )
theorem ts_X6_outletOwner_b0 (E : zE) (q : Nat) (g : zH) (p1 : Int32) (s : twS) : f_X6_outletOwner_b0 E q p1 (tw s q g) = (t_X6_outletOwner_b0 E p1 s).map (zem q g) := by
  unfold f_X6_outletOwner_b0 t_X6_outletOwner_b0
  refine tb1 (tw_pI_2 _ q g _) ?_
  refine tb1 (tw_cko _ q g) ?_
  refine tb5 (ts_X6_isOutlet E q g  _  _) fun x6 s4_ => ?_
  refine tb6 ?_ ?_
  · exact ts_X6_outletOwner_b19 E q g  _ _  _
  · exact ts_X6_outletOwner_b19 E q g  _ _  _
def t_X6_outletOwner (E : zE) (p1 : Int32) (s : twS) : Option (Int32 × twS) :=
  t_X6_outletOwner_b0 E p1 s
theorem ts_X6_outletOwner (E : zE) (q : Nat) (g : zH) (p1 : Int32) (s : twS) : f_X6_outletOwner E q p1 (tw s q g) = (t_X6_outletOwner E p1 s).map (zem q g) := by
  unfold f_X6_outletOwner t_X6_outletOwner
  exact ts_X6_outletOwner_b0 E q g  _  _
def t_X6_outletCell_b48 (E : zE) (s0 : Int32) (s : twS) : Option (Int32 × twS) :=
  some (s0, s)
theorem ts_X6_outletCell_b48 (E : zE) (q : Nat) (g : zH) (s0 : Int32) (s : twS) : f_X6_outletCell_b48 E s0 (tw s q g) = (t_X6_outletCell_b48 E s0 s).map (zem q g) := by
  unfold f_X6_outletCell_b48 t_X6_outletCell_b48
  rfl
def t_X6_outletCell_b19 (E : zE) (p1 : Int32) (s1 : Int32) (s : twS) : Option (Int32 × twS) :=
  bnd2 (t_X6_throwsIf E s1 (1 : Int32) s) fun x4 s2_ =>
  if x4 = 0 then (
    bnd2 (t_X6_ofOutlet E p1 (2 : Int32) s2_) fun x9 s7_ =>
    bnd2 (t_X6_ofOutlet E p1 (1 : Int32) s7_) fun x13 s11_ =>
    t_X6_outletCell_b48 E ((((100 : Int64) * x9) + x13).toInt32) s11_
  ) else (
    t_X6_outletCell_b48 E (0 : Int32) s2_
  )
theorem ts_X6_outletCell_b19 (E : zE) (q : Nat) (g : zH) (p1 : Int32) (s1 : Int32) (s : twS) : f_X6_outletCell_b19 E q p1 q s1 (tw s q g) = (t_X6_outletCell_b19 E p1 s1 s).map (zem q g) := by
  unfold f_X6_outletCell_b19 t_X6_outletCell_b19
  refine tb1 (tw_cko _ q g) ?_
  refine tb5 (ts_X6_throwsIf E q g  _ _  _) fun x4 s2_ => ?_
  refine tb6 ?_ ?_
  · refine tb1 (tw_cko _ q g) ?_
    refine tb5 (ts_X6_ofOutlet E q g  _ _  _) fun x9 s7_ => ?_
    refine tb1 (tw_cko _ q g) ?_
    refine tb5 (ts_X6_ofOutlet E q g  _ _  _) fun x13 s11_ => ?_
    exact ts_X6_outletCell_b48 E q g  _  _
  · exact ts_X6_outletCell_b48 E q g  _  _
def t_X6_outletCell_b0 (E : zE) (p1 : Int32) (s : twS) : Option (Int32 × twS) :=
  bnd2 (t_X6_isOutlet E p1 (uSc s 2 (0 : Int32))) fun x6 s4_ =>
  if x6 = 0 then (
    t_X6_outletCell_b19 E p1 (1 : Int32) s4_
  ) else (
    t_X6_outletCell_b19 E p1 (0 : Int32) s4_
  )
theorem ts_X6_outletCell_b0 (E : zE) (q : Nat) (g : zH) (p1 : Int32) (s : twS) : f_X6_outletCell_b0 E q p1 (tw s q g) = (t_X6_outletCell_b0 E p1 s).map (zem q g) := by
  unfold f_X6_outletCell_b0 t_X6_outletCell_b0
  refine tb1 (tw_pI_2 _ q g _) ?_
  refine tb1 (tw_cko _ q g) ?_
  refine tb5 (ts_X6_isOutlet E q g  _  _) fun x6 s4_ => ?_
  refine tb6 ?_ ?_
  · exact ts_X6_outletCell_b19 E q g  _ _  _
  · exact ts_X6_outletCell_b19 E q g  _ _  _
def t_X6_outletCell (E : zE) (p1 : Int32) (s : twS) : Option (Int32 × twS) :=
  t_X6_outletCell_b0 E p1 s
theorem ts_X6_outletCell (E : zE) (q : Nat) (g : zH) (p1 : Int32) (s : twS) : f_X6_outletCell E q p1 (tw s q g) = (t_X6_outletCell E p1 s).map (zem q g) := by
  unfold f_X6_outletCell t_X6_outletCell
  exact ts_X6_outletCell_b0 E q g  _  _
def t_X6_putOutlet_b0 (E : zE) (p1 : Int32) (p2 : Int32) (p3 : Int32) (p4 : Int32) (s : twS) : Option (Unit × twS) :=
  (tdL s 1 (((5054 : Int32) * p1) + (3 : Int32))).bind fun x3 =>
  (tsL s 1 (((((5054 : Int32) * p1) + (186 : Int32)) + ((4 : Int32) * (x3.toInt32))) + (0 : Int32)) (p2.toInt64)).bind fun s7_ =>
  (tsL s7_ 1 (((((5054 : Int32) * p1) + (186 : Int32)) + ((4 : Int32) * (x3.toInt32))) + (1 : Int32)) (p3.toInt64)).bind fun s11_ =>
  (tsL s11_ 1 (((((5054 : Int32) * p1) + (186 : Int32)) + ((4 : Int32) * (x3.toInt32))) + (2 : Int32)) (p4.toInt64)).bind fun s15_ =>
  (tsL s15_ 1 (((((5054 : Int32) * p1) + (186 : Int32)) + ((4 : Int32) * (x3.toInt32))) + (3 : Int32)) (0 : Int64)).bind fun s19_ =>
  (tdL s19_ 1 (((5054 : Int32) * p1) + (3 : Int32))).bind fun x23 =>
  (tsL s19_ 1 (((5054 : Int32) * p1) + (3 : Int32)) (x23 + (1 : Int64))).bind fun s25_ =>
  some ((), s25_)
theorem ts_X6_putOutlet_b0 (E : zE) (q : Nat) (g : zH) (p1 : Int32) (p2 : Int32) (p3 : Int32) (p4 : Int32) (s : twS) : f_X6_putOutlet_b0 E q p1 p2 p3 p4 (tw s q g) = (t_X6_putOutlet_b0 E p1 p2 p3 p4 s).map (zem q g) := by
  unfold f_X6_putOutlet_b0 t_X6_putOutlet_b0
  refine tb1 (tw_gR_0 _ q g) ?_
  refine tb2 (tw_dL _ q g (by decide) _ ) fun x3 => ?_
  refine tb1 (tw_gR_0 _ q g) ?_
  refine tb4 (tw_sL _ q g (by decide) _ _ ) fun s7_ => ?_
  refine tb1 (tw_gR_0 _ q g) ?_
  refine tb4 (tw_sL _ q g (by decide) _ _ ) fun s11_ => ?_
  refine tb1 (tw_gR_0 _ q g) ?_
  refine tb4 (tw_sL _ q g (by decide) _ _ ) fun s15_ => ?_
  refine tb1 (tw_gR_0 _ q g) ?_
  refine tb4 (tw_sL _ q g (by decide) _ _ ) fun s19_ => ?_
  refine tb1 (tw_gR_0 _ q g) ?_
  refine tb2 (tw_dL _ q g (by decide) _ ) fun x23 => ?_
  refine tb4 (tw_sL _ q g (by decide) _ _ ) fun s25_ => ?_
  rfl
def t_X6_putOutlet (E : zE) (p1 : Int32) (p2 : Int32) (p3 : Int32) (p4 : Int32) (s : twS) : Option (Unit × twS) :=
  t_X6_putOutlet_b0 E p1 p2 p3 p4 s
theorem ts_X6_putOutlet (E : zE) (q : Nat) (g : zH) (p1 : Int32) (p2 : Int32) (p3 : Int32) (p4 : Int32) (s : twS) : f_X6_putOutlet E q p1 p2 p3 p4 (tw s q g) = (t_X6_putOutlet E p1 p2 p3 p4 s).map (zem q g) := by
  unfold f_X6_putOutlet t_X6_putOutlet
  exact ts_X6_putOutlet_b0 E q g  _ _ _ _  _
def t_X6_openOutlet_b47 (E : zE) (s : twS) : Option (Int32 × twS) :=
  some ((0 : Int32), s)
theorem ts_X6_openOutlet_b47 (E : zE) (q : Nat) (g : zH) (s : twS) : f_X6_openOutlet_b47 E  (tw s q g) = (t_X6_openOutlet_b47 E  s).map (zem q g) := by
  unfold f_X6_openOutlet_b47 t_X6_openOutlet_b47
  rfl
def t_X6_openOutlet_b80 (E : zE) (s : twS) : Option (Int32 × twS) :=
  some ((-2 : Int32), s)
theorem ts_X6_openOutlet_b80 (E : zE) (q : Nat) (g : zH) (s : twS) : f_X6_openOutlet_b80 E  (tw s q g) = (t_X6_openOutlet_b80 E  s).map (zem q g) := by
  unfold f_X6_openOutlet_b80 t_X6_openOutlet_b80
  rfl
def t_X6_openOutlet_b40 (E : zE) (p1 : Int32) (p2 : Int32) (p3 : Int32) (s1 : Int32) (s : twS) : Option (Int32 × twS) :=
  bnd2 (t_X6_throwsIf E s1 (2 : Int32) s) fun x4 s2_ =>
  if x4 = 0 then (
    bnd2 (t_X6_isActive E p1 s2_) fun x9 s7_ =>
    if x9 = 0 then (
      t_X6_openOutlet_b80 E s7_
    ) else (
      bnd2 (t_X6_ownerOf E p2 p3 s7_) fun x14 s12_ =>
      if x14 = p1 then (
        bnd2 (t_X6_hasOutlet E (((30 : Int32) * p3) + p2) s12_) fun x19 s17_ =>
        if x19 = 0 then (
          (tdL s17_ 1 (3 : Int32)).bind fun x23 =>
          if x23 = (16 : Int64) then (
            some ((-3 : Int32), s17_)
          ) else (
            bnd2 (t_X6_putOutlet E (0 : Int32) p1 p2 p3 s17_) fun x29 s27_ =>
            (tdL s27_ 1 (3 : Int32)).bind fun x32 =>
            some (((x32.toInt32) - (1 : Int32)), s27_)
          )
        ) else (
          t_X6_openOutlet_b80 E s17_
        )
      ) else (
        t_X6_openOutlet_b80 E s12_
      )
    )
  ) else (
    t_X6_openOutlet_b47 E s2_
  )
theorem ts_X6_openOutlet_b40 (E : zE) (q : Nat) (g : zH) (p1 : Int32) (p2 : Int32) (p3 : Int32) (s1 : Int32) (s : twS) : f_X6_openOutlet_b40 E q p1 p2 p3 q s1 (tw s q g) = (t_X6_openOutlet_b40 E p1 p2 p3 s1 s).map (zem q g) := by
  unfold f_X6_openOutlet_b40 t_X6_openOutlet_b40
  refine tb1 (tw_cko _ q g) ?_
  refine tb5 (ts_X6_throwsIf E q g  _ _  _) fun x4 s2_ => ?_
  refine tb6 ?_ ?_
  · refine tb1 (tw_cko _ q g) ?_
    refine tb5 (ts_X6_isActive E q g  _  _) fun x9 s7_ => ?_
    refine tb6 ?_ ?_
    · exact ts_X6_openOutlet_b80 E q g   _
    · refine tb1 (tw_cko _ q g) ?_
      refine tb5 (ts_X6_ownerOf E q g  _ _  _) fun x14 s12_ => ?_
      refine tb6 ?_ ?_
      · refine tb1 (tw_cko _ q g) ?_
        refine tb5 (ts_X6_hasOutlet E q g  _  _) fun x19 s17_ => ?_
        refine tb6 ?_ ?_
        · refine tb1 (tw_gR_0 _ q g) ?_
          refine tb2 (tw_dL _ q g (by decide) _ ) fun x23 => ?_
          refine tb6 ?_ ?_
          · rfl
          · refine tb1 (tw_cko _ q g) ?_
            refine tb5 (ts_X6_putOutlet E q g  _ _ _ _  _) fun x29 s27_ => ?_
            refine tb1 (tw_gR_0 _ q g) ?_
            refine tb2 (tw_dL _ q g (by decide) _ ) fun x32 => ?_
            rfl
        · exact ts_X6_openOutlet_b80 E q g   _
      · exact ts_X6_openOutlet_b80 E q g   _
  · exact ts_X6_openOutlet_b47 E q g   _
def t_X6_openOutlet_b19 (E : zE) (p1 : Int32) (p2 : Int32) (p3 : Int32) (s1 : Int32) (s : twS) : Option (Int32 × twS) :=
  bnd2 (t_X6_throwsIf E s1 (1 : Int32) s) fun x4 s2_ =>
  if x4 = 0 then (
    bnd2 (t_X6_isCell E p2 p3 s2_) fun x8 s6_ =>
    if x8 = 0 then (
      t_X6_openOutlet_b40 E p1 p2 p3 (1 : Int32) s6_
    ) else (
      t_X6_openOutlet_b40 E p1 p2 p3 (0 : Int32) s6_
    )
  ) else (
    t_X6_openOutlet_b47 E s2_
  )
theorem ts_X6_openOutlet_b19 (E : zE) (q : Nat) (g : zH) (p1 : Int32) (p2 : Int32) (p3 : Int32) (s1 : Int32) (s : twS) : f_X6_openOutlet_b19 E q p1 p2 p3 q s1 (tw s q g) = (t_X6_openOutlet_b19 E p1 p2 p3 s1 s).map (zem q g) := by
  unfold f_X6_openOutlet_b19 t_X6_openOutlet_b19
  refine tb1 (tw_cko _ q g) ?_
  refine tb5 (ts_X6_throwsIf E q g  _ _  _) fun x4 s2_ => ?_
  refine tb6 ?_ ?_
  · refine tb5 (ts_X6_isCell E q g  _ _  _) fun x8 s6_ => ?_
    refine tb6 ?_ ?_
    · exact ts_X6_openOutlet_b40 E q g  _ _ _ _  _
    · exact ts_X6_openOutlet_b40 E q g  _ _ _ _  _
  · exact ts_X6_openOutlet_b47 E q g   _
def t_X6_openOutlet_b0 (E : zE) (p1 : Int32) (p2 : Int32) (p3 : Int32) (s : twS) : Option (Int32 × twS) :=
  bnd2 (t_X6_isFranchisee E p1 (uSc s 2 (0 : Int32))) fun x6 s4_ =>
  if x6 = 0 then (
    t_X6_openOutlet_b19 E p1 p2 p3 (1 : Int32) s4_
  ) else (
    t_X6_openOutlet_b19 E p1 p2 p3 (0 : Int32) s4_
  )
theorem ts_X6_openOutlet_b0 (E : zE) (q : Nat) (g : zH) (p1 : Int32) (p2 : Int32) (p3 : Int32) (s : twS) : f_X6_openOutlet_b0 E q p1 p2 p3 (tw s q g) = (t_X6_openOutlet_b0 E p1 p2 p3 s).map (zem q g) := by
  unfold f_X6_openOutlet_b0 t_X6_openOutlet_b0
  refine tb1 (tw_pI_2 _ q g _) ?_
  refine tb1 (tw_cko _ q g) ?_
  refine tb5 (ts_X6_isFranchisee E q g  _  _) fun x6 s4_ => ?_
  refine tb6 ?_ ?_
  · exact ts_X6_openOutlet_b19 E q g  _ _ _ _  _
  · exact ts_X6_openOutlet_b19 E q g  _ _ _ _  _
def t_X6_openOutlet (E : zE) (p1 : Int32) (p2 : Int32) (p3 : Int32) (s : twS) : Option (Int32 × twS) :=
  t_X6_openOutlet_b0 E p1 p2 p3 s
theorem ts_X6_openOutlet (E : zE) (q : Nat) (g : zH) (p1 : Int32) (p2 : Int32) (p3 : Int32) (s : twS) : f_X6_openOutlet E q p1 p2 p3 (tw s q g) = (t_X6_openOutlet E p1 p2 p3 s).map (zem q g) := by
  unfold f_X6_openOutlet t_X6_openOutlet
  exact ts_X6_openOutlet_b0 E q g  _ _ _  _
def t_X6_nearestOutlet_b85 (E : zE) (k5 : Int32 → Int32 → Int32 → Int32 → twS → Option (Int32 × twS)) (p1 : Int32) (p2 : Int32) (p3 : Int32) (p4 : Int32) (s : twS) : Option (Int32 × twS) :=
  k5 p1 p2 p3 (p4 + 1) s
theorem ts_X6_nearestOutlet_b85 (E : zE) (q : Nat) (g : zH) {K5 : Nat → Int32 → Int32 → Int32 → Int32 → zH → Option (Int32 × zH)} {k5 : Int32 → Int32 → Int32 → Int32 → twS → Option (Int32 × twS)} (hk5 : ∀ (p1 : Int32) (p2 : Int32) (p3 : Int32) (p4 : Int32) (s : twS), K5 q p1 p2 p3 p4 (tw s q g) = (k5 p1 p2 p3 p4 s).map (zem q g)) (p1 : Int32) (p2 : Int32) (p3 : Int32) (p4 : Int32) (s : twS) : f_X6_nearestOutlet_b85 E K5 q p1 p2 p3 p4 (tw s q g) = (t_X6_nearestOutlet_b85 E k5 p1 p2 p3 p4 s).map (zem q g) := by
  unfold f_X6_nearestOutlet_b85 t_X6_nearestOutlet_b85
  exact hk5 _ _ _ _  _
def t_X6_nearestOutlet_b84 (E : zE) (k5 : Int32 → Int32 → Int32 → Int32 → twS → Option (Int32 × twS)) (p1 : Int32) (p2 : Int32) (p4 : Int32) (s0 : Int32) (s : twS) : Option (Int32 × twS) :=
  t_X6_nearestOutlet_b85 E k5 p1 p2 s0 p4 s
theorem ts_X6_nearestOutlet_b84 (E : zE) (q : Nat) (g : zH) {K5 : Nat → Int32 → Int32 → Int32 → Int32 → zH → Option (Int32 × zH)} {k5 : Int32 → Int32 → Int32 → Int32 → twS → Option (Int32 × twS)} (hk5 : ∀ (p1 : Int32) (p2 : Int32) (p3 : Int32) (p4 : Int32) (s : twS), K5 q p1 p2 p3 p4 (tw s q g) = (k5 p1 p2 p3 p4 s).map (zem q g)) (p1 : Int32) (p2 : Int32) (p4 : Int32) (s0 : Int32) (s : twS) : f_X6_nearestOutlet_b84 E K5 q p1 p2 p4 s0 (tw s q g) = (t_X6_nearestOutlet_b84 E k5 p1 p2 p4 s0 s).map (zem q g) := by
  unfold f_X6_nearestOutlet_b84 t_X6_nearestOutlet_b84
  exact ts_X6_nearestOutlet_b85 E q g hk5  _ _ _ _  _
def t_X6_nearestOutlet_b78 (E : zE) (k5 : Int32 → Int32 → Int32 → Int32 → twS → Option (Int32 × twS)) (p1 : Int32) (p2 : Int32) (p4 : Int32) (p5 : Int32) (s : twS) : Option (Int32 × twS) :=
  t_X6_nearestOutlet_b84 E k5 p1 p2 p4 p5 s
theorem ts_X6_nearestOutlet_b78 (E : zE) (q : Nat) (g : zH) {K5 : Nat → Int32 → Int32 → Int32 → Int32 → zH → Option (Int32 × zH)} {k5 : Int32 → Int32 → Int32 → Int32 → twS → Option (Int32 × twS)} (hk5 : ∀ (p1 : Int32) (p2 : Int32) (p3 : Int32) (p4 : Int32) (s : twS), K5 q p1 p2 p3 p4 (tw s q g) = (k5 p1 p2 p3 p4 s).map (zem q g)) (p1 : Int32) (p2 : Int32) (p4 : Int32) (p5 : Int32) (s : twS) : f_X6_nearestOutlet_b78 E K5 q p1 p2 p4 p5 (tw s q g) = (t_X6_nearestOutlet_b78 E k5 p1 p2 p4 p5 s).map (zem q g) := by
  unfold f_X6_nearestOutlet_b78 t_X6_nearestOutlet_b78
  exact ts_X6_nearestOutlet_b84 E q g hk5  _ _ _ _  _
def t_X6_nearestOutlet_b48 (E : zE) (k5 : Int32 → Int32 → Int32 → Int32 → twS → Option (Int32 × twS)) (p1 : Int32) (p2 : Int32) (p3 : Int32) (p4 : Int32) (s : twS) : Option (Int32 × twS) :=
  bnd2 (t_X6_cellOf E p4 s) fun x4 s2_ =>
  bnd2 (t_X6_apart E (p1 - p1 / (30 : Int32) * (30 : Int32)) (p1 / (30 : Int32)) x4 s2_) fun x7 s5_ =>
  if p3 = (-1 : Int32) then (
    t_X6_nearestOutlet_b78 E k5 p1 p2 p4 x7 s5_
  ) else (
    if p3 ≤ x7 then (
      t_X6_nearestOutlet_b84 E k5 p1 p2 p4 p3 s5_
    ) else (
      t_X6_nearestOutlet_b78 E k5 p1 p2 p4 x7 s5_
    )
  )
theorem ts_X6_nearestOutlet_b48 (E : zE) (q : Nat) (g : zH) {K5 : Nat → Int32 → Int32 → Int32 → Int32 → zH → Option (Int32 × zH)} {k5 : Int32 → Int32 → Int32 → Int32 → twS → Option (Int32 × twS)} (hk5 : ∀ (p1 : Int32) (p2 : Int32) (p3 : Int32) (p4 : Int32) (s : twS), K5 q p1 p2 p3 p4 (tw s q g) = (k5 p1 p2 p3 p4 s).map (zem q g)) (p1 : Int32) (p2 : Int32) (p3 : Int32) (p4 : Int32) (s : twS) : f_X6_nearestOutlet_b48 E K5 q p1 p2 p3 p4 (tw s q g) = (t_X6_nearestOutlet_b48 E k5 p1 p2 p3 p4 s).map (zem q g) := by
  unfold f_X6_nearestOutlet_b48 t_X6_nearestOutlet_b48
  refine tb1 (tw_cko _ q g) ?_
  refine tb5 (ts_X6_cellOf E q g  _  _) fun x4 s2_ => ?_
  refine tb5 (ts_X6_apart E q g  _ _ _  _) fun x7 s5_ => ?_
  refine tb6 ?_ ?_
  · exact ts_X6_nearestOutlet_b78 E q g hk5  _ _ _ _  _
  · refine tb6 ?_ ?_
    · exact ts_X6_nearestOutlet_b84 E q g hk5  _ _ _ _  _
    · exact ts_X6_nearestOutlet_b78 E q g hk5  _ _ _ _  _
def t_X6_nearestOutlet_l5 (E : zE) : Nat → Int32 → Int32 → Int32 → Int32 → twS → Option (Int32 × twS)
  | 0, _, _, _, _, _ => none
  | n + 1, p1, p2, p3, p4, s =>
    (tdL s 1 (3 : Int32)).bind fun x3 =>
    if x3 ≤ (p4.toInt64) then (
      some (p3, s)
    ) else (
      bnd2 (t_X6_isOpen E p4 s) fun x9 s7_ =>
      if x9 = 0 then (
        t_X6_nearestOutlet_b85 E (t_X6_nearestOutlet_l5 E n) p1 p2 p3 p4 s7_
      ) else (
        if p2 = (-1 : Int32) then (
          t_X6_nearestOutlet_b48 E (t_X6_nearestOutlet_l5 E n) p1 p2 p3 p4 s7_
        ) else (
          bnd2 (t_X6_ofOutlet E p4 (0 : Int32) s7_) fun x15 s13_ =>
          if x15 = (p2.toInt64) then (
            t_X6_nearestOutlet_b48 E (t_X6_nearestOutlet_l5 E n) p1 p2 p3 p4 s13_
          ) else (
            t_X6_nearestOutlet_b85 E (t_X6_nearestOutlet_l5 E n) p1 p2 p3 p4 s13_
          )
        )
      )
    )
theorem ts_X6_nearestOutlet_l5 (E : zE) (q : Nat) (g : zH) : ∀ (n : Nat) (p1 : Int32) (p2 : Int32) (p3 : Int32) (p4 : Int32) (s : twS), f_X6_nearestOutlet_l5 E n q p1 p2 p3 p4 (tw s q g) = (t_X6_nearestOutlet_l5 E n p1 p2 p3 p4 s).map (zem q g) := by
  intro n
  induction n with
  | zero => intros; rfl
  | succ n ih =>
    intro p1 p2 p3 p4 s
    unfold f_X6_nearestOutlet_l5 t_X6_nearestOutlet_l5
    refine tb1 (tw_gR_0 _ q g) ?_
    refine tb2 (tw_dL _ q g (by decide) _ ) fun x3 => ?_
    refine tb6 ?_ ?_
    · rfl
    · refine tb1 (tw_cko _ q g) ?_
      refine tb5 (ts_X6_isOpen E q g  _  _) fun x9 s7_ => ?_
      refine tb6 ?_ ?_
      · exact ts_X6_nearestOutlet_b85 E q g ih  _ _ _ _  _
      · refine tb6 ?_ ?_
        · exact ts_X6_nearestOutlet_b48 E q g ih  _ _ _ _  _
        · refine tb1 (tw_cko _ q g) ?_
          refine tb5 (ts_X6_ofOutlet E q g  _ _  _) fun x15 s13_ => ?_
          refine tb6 ?_ ?_
          · exact ts_X6_nearestOutlet_b48 E q g ih  _ _ _ _  _
          · exact ts_X6_nearestOutlet_b85 E q g ih  _ _ _ _  _
def t_X6_nearestOutlet_b0 (E : zE) (p1 : Int32) (p2 : Int32) (s : twS) : Option (Int32 × twS) :=
  t_X6_nearestOutlet_l5 E E.1 p1 p2 (-1 : Int32) (0 : Int32) s
theorem ts_X6_nearestOutlet_b0 (E : zE) (q : Nat) (g : zH) (p1 : Int32) (p2 : Int32) (s : twS) : f_X6_nearestOutlet_b0 E q p1 p2 (tw s q g) = (t_X6_nearestOutlet_b0 E p1 p2 s).map (zem q g) := by
  unfold f_X6_nearestOutlet_b0 t_X6_nearestOutlet_b0
  exact ts_X6_nearestOutlet_l5 E q g E.1 _ _ _ _  _
def t_X6_nearestOutlet (E : zE) (p1 : Int32) (p2 : Int32) (s : twS) : Option (Int32 × twS) :=
  t_X6_nearestOutlet_b0 E p1 p2 s
theorem ts_X6_nearestOutlet (E : zE) (q : Nat) (g : zH) (p1 : Int32) (p2 : Int32) (s : twS) : f_X6_nearestOutlet E q p1 p2 (tw s q g) = (t_X6_nearestOutlet E p1 p2 s).map (zem q g) := by
  unfold f_X6_nearestOutlet t_X6_nearestOutlet
  exact ts_X6_nearestOutlet_b0 E q g  _ _  _
def t_X6_bestSite_b115 (E : zE) (s0 : Int32) (s : twS) : Option (Int32 × twS) :=
  some (s0, s)
theorem ts_X6_bestSite_b115 (E : zE) (q : Nat) (g : zH) (s0 : Int32) (s : twS) : f_X6_bestSite_b115 E s0 (tw s q g) = (t_X6_bestSite_b115 E s0 s).map (zem q g) := by
  unfold f_X6_bestSite_b115 t_X6_bestSite_b115
  rfl
def t_X6_bestSite_b88 (E : zE) (k32 : Int32 → Int32 → Int32 → twS → Option (Int32 × twS)) (p1 : Int32) (p2 : Int32) (p3 : Int32) (s : twS) : Option (Int32 × twS) :=
  k32 p1 p2 (p3 + 1) s
theorem ts_X6_bestSite_b88 (E : zE) (q : Nat) (g : zH) {K32 : Nat → Int32 → Int32 → Int32 → zH → Option (Int32 × zH)} {k32 : Int32 → Int32 → Int32 → twS → Option (Int32 × twS)} (hk32 : ∀ (p1 : Int32) (p2 : Int32) (p3 : Int32) (s : twS), K32 q p1 p2 p3 (tw s q g) = (k32 p1 p2 p3 s).map (zem q g)) (p1 : Int32) (p2 : Int32) (p3 : Int32) (s : twS) : f_X6_bestSite_b88 E K32 q p1 p2 p3 (tw s q g) = (t_X6_bestSite_b88 E k32 p1 p2 p3 s).map (zem q g) := by
  unfold f_X6_bestSite_b88 t_X6_bestSite_b88
  exact hk32 _ _ _  _
def t_X6_bestSite_b86 (E : zE) (k32 : Int32 → Int32 → Int32 → twS → Option (Int32 × twS)) (p1 : Int32) (p3 : Int32) (s : twS) : Option (Int32 × twS) :=
  t_X6_bestSite_b88 E k32 p1 p3 p3 s
theorem ts_X6_bestSite_b86 (E : zE) (q : Nat) (g : zH) {K32 : Nat → Int32 → Int32 → Int32 → zH → Option (Int32 × zH)} {k32 : Int32 → Int32 → Int32 → twS → Option (Int32 × twS)} (hk32 : ∀ (p1 : Int32) (p2 : Int32) (p3 : Int32) (s : twS), K32 q p1 p2 p3 (tw s q g) = (k32 p1 p2 p3 s).map (zem q g)) (p1 : Int32) (p3 : Int32) (s : twS) : f_X6_bestSite_b86 E K32 q p1 p3 (tw s q g) = (t_X6_bestSite_b86 E k32 p1 p3 s).map (zem q g) := by
  unfold f_X6_bestSite_b86 t_X6_bestSite_b86
  exact ts_X6_bestSite_b88 E q g hk32  _ _ _  _
def t_X6_bestSite_l32 (E : zE) : Nat → Int32 → Int32 → Int32 → twS → Option (Int32 × twS)
  | 0, _, _, _, _ => none
  | n + 1, p1, p2, p3, s =>
    if (900 : Int32) ≤ p3 then (
      if p2 = (-1 : Int32) then (
        t_X6_bestSite_b115 E (-1 : Int32) s
      ) else (
        t_X6_bestSite_b115 E (((100 : Int32) * (p2 / (30 : Int32))) + (p2 - p2 / (30 : Int32) * (30 : Int32))) s
      )
    ) else (
      (tdL s 1 ((250 : Int32) + p3)).bind fun x5 =>
      if x5 = (p1.toInt64) then (
        bnd2 (t_X6_hasOutlet E p3 s) fun x11 s9_ =>
        if x11 = 0 then (
          if p2 = (-1 : Int32) then (
            t_X6_bestSite_b86 E (t_X6_bestSite_l32 E n) p1 p3 s9_
          ) else (
            bnd2 (t_X6_nearestOutlet E p3 (-1 : Int32) s9_) fun x17 s15_ =>
            bnd2 (t_X6_nearestOutlet E p2 (-1 : Int32) s15_) fun x21 s19_ =>
            if x17 ≤ x21 then (
              t_X6_bestSite_b88 E (t_X6_bestSite_l32 E n) p1 p2 p3 s19_
            ) else (
              t_X6_bestSite_b86 E (t_X6_bestSite_l32 E n) p1 p3 s19_
            )
          )
        ) else (
          t_X6_bestSite_b88 E (t_X6_bestSite_l32 E n) p1 p2 p3 s9_
        )
      ) else (
        t_X6_bestSite_b88 E (t_X6_bestSite_l32 E n) p1 p2 p3 s
      )
    )
theorem ts_X6_bestSite_l32 (E : zE) (q : Nat) (g : zH) : ∀ (n : Nat) (p1 : Int32) (p2 : Int32) (p3 : Int32) (s : twS), f_X6_bestSite_l32 E n q p1 p2 p3 (tw s q g) = (t_X6_bestSite_l32 E n p1 p2 p3 s).map (zem q g) := by
  intro n
  induction n with
  | zero => intros; rfl
  | succ n ih =>
    intro p1 p2 p3 s
    unfold f_X6_bestSite_l32 t_X6_bestSite_l32
    refine tb6 ?_ ?_
    · refine tb6 ?_ ?_
      · exact ts_X6_bestSite_b115 E q g  _  _
      · exact ts_X6_bestSite_b115 E q g  _  _
    · refine tb1 (tw_gR_0 _ q g) ?_
      refine tb2 (tw_dL _ q g (by decide) _ ) fun x5 => ?_
      refine tb6 ?_ ?_
      · refine tb1 (tw_cko _ q g) ?_
        refine tb5 (ts_X6_hasOutlet E q g  _  _) fun x11 s9_ => ?_
        refine tb6 ?_ ?_
        · refine tb6 ?_ ?_
          · exact ts_X6_bestSite_b86 E q g ih  _ _  _
          · refine tb1 (tw_cko _ q g) ?_
            refine tb5 (ts_X6_nearestOutlet E q g  _ _  _) fun x17 s15_ => ?_
            refine tb1 (tw_cko _ q g) ?_
            refine tb5 (ts_X6_nearestOutlet E q g  _ _  _) fun x21 s19_ => ?_
            refine tb6 ?_ ?_
            · exact ts_X6_bestSite_b88 E q g ih  _ _ _  _
            · exact ts_X6_bestSite_b86 E q g ih  _ _  _
        · exact ts_X6_bestSite_b88 E q g ih  _ _ _  _
      · exact ts_X6_bestSite_b88 E q g ih  _ _ _  _
def t_X6_bestSite_b19 (E : zE) (p1 : Int32) (s1 : Int32) (s : twS) : Option (Int32 × twS) :=
  bnd2 (t_X6_throwsIf E s1 (1 : Int32) s) fun x4 s2_ =>
  if x4 = 0 then (
    t_X6_bestSite_l32 E E.1 p1 (-1 : Int32) (0 : Int32) s2_
  ) else (
    some ((0 : Int32), s2_)
  )
theorem ts_X6_bestSite_b19 (E : zE) (q : Nat) (g : zH) (p1 : Int32) (s1 : Int32) (s : twS) : f_X6_bestSite_b19 E q p1 q s1 (tw s q g) = (t_X6_bestSite_b19 E p1 s1 s).map (zem q g) := by
  unfold f_X6_bestSite_b19 t_X6_bestSite_b19
  refine tb1 (tw_cko _ q g) ?_
  refine tb5 (ts_X6_throwsIf E q g  _ _  _) fun x4 s2_ => ?_
  refine tb6 ?_ ?_
  · exact ts_X6_bestSite_l32 E q g E.1 _ _ _  _
  · rfl
def t_X6_bestSite_b0 (E : zE) (p1 : Int32) (s : twS) : Option (Int32 × twS) :=
  bnd2 (t_X6_isFranchisee E p1 (uSc s 2 (0 : Int32))) fun x6 s4_ =>
  if x6 = 0 then (
    t_X6_bestSite_b19 E p1 (1 : Int32) s4_
  ) else (
    t_X6_bestSite_b19 E p1 (0 : Int32) s4_
  )
theorem ts_X6_bestSite_b0 (E : zE) (q : Nat) (g : zH) (p1 : Int32) (s : twS) : f_X6_bestSite_b0 E q p1 (tw s q g) = (t_X6_bestSite_b0 E p1 s).map (zem q g) := by
  unfold f_X6_bestSite_b0 t_X6_bestSite_b0
  refine tb1 (tw_pI_2 _ q g _) ?_
  refine tb1 (tw_cko _ q g) ?_
  refine tb5 (ts_X6_isFranchisee E q g  _  _) fun x6 s4_ => ?_
  refine tb6 ?_ ?_
  · exact ts_X6_bestSite_b19 E q g  _ _  _
  · exact ts_X6_bestSite_b19 E q g  _ _  _
def t_X6_bestSite (E : zE) (p1 : Int32) (s : twS) : Option (Int32 × twS) :=
  t_X6_bestSite_b0 E p1 s
theorem ts_X6_bestSite (E : zE) (q : Nat) (g : zH) (p1 : Int32) (s : twS) : f_X6_bestSite E q p1 (tw s q g) = (t_X6_bestSite E p1 s).map (zem q g) := by
  unfold f_X6_bestSite t_X6_bestSite
  exact ts_X6_bestSite_b0 E q g  _  _
def t_X6_coverage_b51 (E : zE) (s : twS) : Option (Int32 × twS) :=
  some ((0 : Int32), s)
theorem ts_X6_coverage_b51 (E : zE) (q : Nat) (g : zH) (s : twS) : f_X6_coverage_b51 E  (tw s q g) = (t_X6_coverage_b51 E  s).map (zem q g) := by
  unfold f_X6_coverage_b51 t_X6_coverage_b51
  rfl
def t_X6_coverage_b108 (E : zE) (k58 : Int32 → Int32 → Int32 → Int32 → twS → Option (Int32 × twS)) (p1 : Int32) (p2 : Int32) (p3 : Int32) (p4 : Int32) (s : twS) : Option (Int32 × twS) :=
  k58 p1 p2 p3 (p4 + 1) s
theorem ts_X6_coverage_b108 (E : zE) (q : Nat) (g : zH) {K58 : Nat → Int32 → Int32 → Int32 → Int32 → zH → Option (Int32 × zH)} {k58 : Int32 → Int32 → Int32 → Int32 → twS → Option (Int32 × twS)} (hk58 : ∀ (p1 : Int32) (p2 : Int32) (p3 : Int32) (p4 : Int32) (s : twS), K58 q p1 p2 p3 p4 (tw s q g) = (k58 p1 p2 p3 p4 s).map (zem q g)) (p1 : Int32) (p2 : Int32) (p3 : Int32) (p4 : Int32) (s : twS) : f_X6_coverage_b108 E K58 q p1 p2 p3 p4 (tw s q g) = (t_X6_coverage_b108 E k58 p1 p2 p3 p4 s).map (zem q g) := by
  unfold f_X6_coverage_b108 t_X6_coverage_b108
  exact hk58 _ _ _ _  _
def t_X6_coverage_b106 (E : zE) (k58 : Int32 → Int32 → Int32 → Int32 → twS → Option (Int32 × twS)) (p1 : Int32) (p2 : Int32) (p4 : Int32) (s0 : Int32) (s1 : Int32) (s : twS) : Option (Int32 × twS) :=
  t_X6_coverage_b108 E k58 p1 p2 (s0 + s1) p4 s
theorem ts_X6_coverage_b106 (E : zE) (q : Nat) (g : zH) {K58 : Nat → Int32 → Int32 → Int32 → Int32 → zH → Option (Int32 × zH)} {k58 : Int32 → Int32 → Int32 → Int32 → twS → Option (Int32 × twS)} (hk58 : ∀ (p1 : Int32) (p2 : Int32) (p3 : Int32) (p4 : Int32) (s : twS), K58 q p1 p2 p3 p4 (tw s q g) = (k58 p1 p2 p3 p4 s).map (zem q g)) (p1 : Int32) (p2 : Int32) (p4 : Int32) (s0 : Int32) (s1 : Int32) (s : twS) : f_X6_coverage_b106 E K58 q p1 p2 p4 s0 s1 (tw s q g) = (t_X6_coverage_b106 E k58 p1 p2 p4 s0 s1 s).map (zem q g) := by
  unfold f_X6_coverage_b106 t_X6_coverage_b106
  exact ts_X6_coverage_b108 E q g hk58  _ _ _ _  _
def t_X6_coverage_l58 (E : zE) : Nat → Int32 → Int32 → Int32 → Int32 → twS → Option (Int32 × twS)
  | 0, _, _, _, _, _ => none
  | n + 1, p1, p2, p3, p4, s =>
    if (900 : Int32) ≤ p4 then (
      some (p3, s)
    ) else (
      (tdL s 1 ((250 : Int32) + p4)).bind fun x4 =>
      if x4 = (p1.toInt64) then (
        bnd2 (t_X6_nearestOutlet E p4 p1 s) fun x10 s8_ =>
        bnd2 (t_X6_inRange E (x10.toInt64) (0 : Int64) (p2.toInt64) s8_) fun x13 s11_ =>
        if x13 = 0 then (
          t_X6_coverage_b106 E (t_X6_coverage_l58 E n) p1 p2 p4 p3 (0 : Int32) s11_
        ) else (
          t_X6_coverage_b106 E (t_X6_coverage_l58 E n) p1 p2 p4 p3 (1 : Int32) s11_
        )
      ) else (
        t_X6_coverage_b108 E (t_X6_coverage_l58 E n) p1 p2 p3 p4 s
      )
    )
theorem ts_X6_coverage_l58 (E : zE) (q : Nat) (g : zH) : ∀ (n : Nat) (p1 : Int32) (p2 : Int32) (p3 : Int32) (p4 : Int32) (s : twS), f_X6_coverage_l58 E n q p1 p2 p3 p4 (tw s q g) = (t_X6_coverage_l58 E n p1 p2 p3 p4 s).map (zem q g) := by
  intro n
  induction n with
  | zero => intros; rfl
  | succ n ih =>
    intro p1 p2 p3 p4 s
    unfold f_X6_coverage_l58 t_X6_coverage_l58
    refine tb6 ?_ ?_
    · rfl
    · refine tb1 (tw_gR_0 _ q g) ?_
      refine tb2 (tw_dL _ q g (by decide) _ ) fun x4 => ?_
      refine tb6 ?_ ?_
      · refine tb1 (tw_cko _ q g) ?_
        refine tb5 (ts_X6_nearestOutlet E q g  _ _  _) fun x10 s8_ => ?_
        refine tb5 (ts_X6_inRange E q g  _ _ _  _) fun x13 s11_ => ?_
        refine tb6 ?_ ?_
        · exact ts_X6_coverage_b106 E q g ih  _ _ _ _ _  _
        · exact ts_X6_coverage_b106 E q g ih  _ _ _ _ _  _
      · exact ts_X6_coverage_b108 E q g ih  _ _ _ _  _
def t_X6_coverage_b44 (E : zE) (p1 : Int32) (p2 : Int32) (s1 : Int32) (s : twS) : Option (Int32 × twS) :=
  bnd2 (t_X6_throwsIf E s1 (2 : Int32) s) fun x4 s2_ =>
  if x4 = 0 then (
    t_X6_coverage_l58 E E.1 p1 p2 (0 : Int32) (0 : Int32) s2_
  ) else (
    t_X6_coverage_b51 E s2_
  )
theorem ts_X6_coverage_b44 (E : zE) (q : Nat) (g : zH) (p1 : Int32) (p2 : Int32) (s1 : Int32) (s : twS) : f_X6_coverage_b44 E q p1 p2 q s1 (tw s q g) = (t_X6_coverage_b44 E p1 p2 s1 s).map (zem q g) := by
  unfold f_X6_coverage_b44 t_X6_coverage_b44
  refine tb1 (tw_cko _ q g) ?_
  refine tb5 (ts_X6_throwsIf E q g  _ _  _) fun x4 s2_ => ?_
  refine tb6 ?_ ?_
  · exact ts_X6_coverage_l58 E q g E.1 _ _ _ _  _
  · exact ts_X6_coverage_b51 E q g   _
def t_X6_coverage_b19 (E : zE) (p1 : Int32) (p2 : Int32) (s1 : Int32) (s : twS) : Option (Int32 × twS) :=
  bnd2 (t_X6_throwsIf E s1 (1 : Int32) s) fun x4 s2_ =>
  if x4 = 0 then (
    bnd2 (t_X6_inRange E (p2.toInt64) (0 : Int64) (58 : Int64) s2_) fun x8 s6_ =>
    if x8 = 0 then (
      t_X6_coverage_b44 E p1 p2 (1 : Int32) s6_
    ) else (
      t_X6_coverage_b44 E p1 p2 (0 : Int32) s6_
    )
  ) else (
    t_X6_coverage_b51 E s2_
  )
theorem ts_X6_coverage_b19 (E : zE) (q : Nat) (g : zH) (p1 : Int32) (p2 : Int32) (s1 : Int32) (s : twS) : f_X6_coverage_b19 E q p1 p2 q s1 (tw s q g) = (t_X6_coverage_b19 E p1 p2 s1 s).map (zem q g) := by
  unfold f_X6_coverage_b19 t_X6_coverage_b19
  refine tb1 (tw_cko _ q g) ?_
  refine tb5 (ts_X6_throwsIf E q g  _ _  _) fun x4 s2_ => ?_
  refine tb6 ?_ ?_
  · refine tb5 (ts_X6_inRange E q g  _ _ _  _) fun x8 s6_ => ?_
    refine tb6 ?_ ?_
    · exact ts_X6_coverage_b44 E q g  _ _ _  _
    · exact ts_X6_coverage_b44 E q g  _ _ _  _
  · exact ts_X6_coverage_b51 E q g   _
def t_X6_coverage_b0 (E : zE) (p1 : Int32) (p2 : Int32) (s : twS) : Option (Int32 × twS) :=
  bnd2 (t_X6_isFranchisee E p1 (uSc s 2 (0 : Int32))) fun x6 s4_ =>
  if x6 = 0 then (
    t_X6_coverage_b19 E p1 p2 (1 : Int32) s4_
  ) else (
    t_X6_coverage_b19 E p1 p2 (0 : Int32) s4_
  )
theorem ts_X6_coverage_b0 (E : zE) (q : Nat) (g : zH) (p1 : Int32) (p2 : Int32) (s : twS) : f_X6_coverage_b0 E q p1 p2 (tw s q g) = (t_X6_coverage_b0 E p1 p2 s).map (zem q g) := by
  unfold f_X6_coverage_b0 t_X6_coverage_b0
  refine tb1 (tw_pI_2 _ q g _) ?_
  refine tb1 (tw_cko _ q g) ?_
  refine tb5 (ts_X6_isFranchisee E q g  _  _) fun x6 s4_ => ?_
  refine tb6 ?_ ?_
  · exact ts_X6_coverage_b19 E q g  _ _ _  _
  · exact ts_X6_coverage_b19 E q g  _ _ _  _
def t_X6_coverage (E : zE) (p1 : Int32) (p2 : Int32) (s : twS) : Option (Int32 × twS) :=
  t_X6_coverage_b0 E p1 p2 s
theorem ts_X6_coverage (E : zE) (q : Nat) (g : zH) (p1 : Int32) (p2 : Int32) (s : twS) : f_X6_coverage E q p1 p2 (tw s q g) = (t_X6_coverage E p1 p2 s).map (zem q g) := by
  unfold f_X6_coverage t_X6_coverage
  exact ts_X6_coverage_b0 E q g  _ _  _
def t_X6_rivalCells_b52 (E : zE) (s : twS) : Option (Int32 × twS) :=
  some ((0 : Int32), s)
theorem ts_X6_rivalCells_b52 (E : zE) (q : Nat) (g : zH) (s : twS) : f_X6_rivalCells_b52 E  (tw s q g) = (t_X6_rivalCells_b52 E  s).map (zem q g) := by
  unfold f_X6_rivalCells_b52 t_X6_rivalCells_b52
  rfl
def t_X6_rivalCells_b132 (E : zE) (k59 : Int32 → Int32 → Int32 → Int32 → twS → Option (Int32 × twS)) (p1 : Int32) (p2 : Int32) (p3 : Int32) (p4 : Int32) (s : twS) : Option (Int32 × twS) :=
  k59 p1 p2 p3 (p4 + 1) s
theorem ts_X6_rivalCells_b132 (E : zE) (q : Nat) (g : zH) {K59 : Nat → Int32 → Int32 → Int32 → Int32 → zH → Option (Int32 × zH)} {k59 : Int32 → Int32 → Int32 → Int32 → twS → Option (Int32 × twS)} (hk59 : ∀ (p1 : Int32) (p2 : Int32) (p3 : Int32) (p4 : Int32) (s : twS), K59 q p1 p2 p3 p4 (tw s q g) = (k59 p1 p2 p3 p4 s).map (zem q g)) (p1 : Int32) (p2 : Int32) (p3 : Int32) (p4 : Int32) (s : twS) : f_X6_rivalCells_b132 E K59 q p1 p2 p3 p4 (tw s q g) = (t_X6_rivalCells_b132 E k59 p1 p2 p3 p4 s).map (zem q g) := by
  unfold f_X6_rivalCells_b132 t_X6_rivalCells_b132
  exact hk59 _ _ _ _  _
def t_X6_rivalCells_b130 (E : zE) (k59 : Int32 → Int32 → Int32 → Int32 → twS → Option (Int32 × twS)) (p1 : Int32) (p2 : Int32) (p4 : Int32) (s0 : Int32) (s1 : Int32) (s : twS) : Option (Int32 × twS) :=
  t_X6_rivalCells_b132 E k59 p1 p2 (s0 + s1) p4 s
theorem ts_X6_rivalCells_b130 (E : zE) (q : Nat) (g : zH) {K59 : Nat → Int32 → Int32 → Int32 → Int32 → zH → Option (Int32 × zH)} {k59 : Int32 → Int32 → Int32 → Int32 → twS → Option (Int32 × twS)} (hk59 : ∀ (p1 : Int32) (p2 : Int32) (p3 : Int32) (p4 : Int32) (s : twS), K59 q p1 p2 p3 p4 (tw s q g) = (k59 p1 p2 p3 p4 s).map (zem q g)) (p1 : Int32) (p2 : Int32) (p4 : Int32) (s0 : Int32) (s1 : Int32) (s : twS) : f_X6_rivalCells_b130 E K59 q p1 p2 p4 s0 s1 (tw s q g) = (t_X6_rivalCells_b130 E k59 p1 p2 p4 s0 s1 s).map (zem q g) := by
  unfold f_X6_rivalCells_b130 t_X6_rivalCells_b130
  exact ts_X6_rivalCells_b132 E q g hk59  _ _ _ _  _
def t_X6_rivalCells_b129 (E : zE) (k59 : Int32 → Int32 → Int32 → Int32 → twS → Option (Int32 × twS)) (p1 : Int32) (p2 : Int32) (p4 : Int32) (s0 : Int32) (s : twS) : Option (Int32 × twS) :=
  t_X6_rivalCells_b130 E k59 p1 p2 p4 s0 (0 : Int32) s
theorem ts_X6_rivalCells_b129 (E : zE) (q : Nat) (g : zH) {K59 : Nat → Int32 → Int32 → Int32 → Int32 → zH → Option (Int32 × zH)} {k59 : Int32 → Int32 → Int32 → Int32 → twS → Option (Int32 × twS)} (hk59 : ∀ (p1 : Int32) (p2 : Int32) (p3 : Int32) (p4 : Int32) (s : twS), K59 q p1 p2 p3 p4 (tw s q g) = (k59 p1 p2 p3 p4 s).map (zem q g)) (p1 : Int32) (p2 : Int32) (p4 : Int32) (s0 : Int32) (s : twS) : f_X6_rivalCells_b129 E K59 q p1 p2 p4 s0 (tw s q g) = (t_X6_rivalCells_b129 E k59 p1 p2 p4 s0 s).map (zem q g) := by
  unfold f_X6_rivalCells_b129 t_X6_rivalCells_b129
  exact ts_X6_rivalCells_b130 E q g hk59  _ _ _ _ _  _
def t_X6_rivalCells_b125 (E : zE) (k59 : Int32 → Int32 → Int32 → Int32 → twS → Option (Int32 × twS)) (p1 : Int32) (p2 : Int32) (p4 : Int32) (s0 : Int32) (s : twS) : Option (Int32 × twS) :=
  t_X6_rivalCells_b130 E k59 p1 p2 p4 s0 (1 : Int32) s
theorem ts_X6_rivalCells_b125 (E : zE) (q : Nat) (g : zH) {K59 : Nat → Int32 → Int32 → Int32 → Int32 → zH → Option (Int32 × zH)} {k59 : Int32 → Int32 → Int32 → Int32 → twS → Option (Int32 × twS)} (hk59 : ∀ (p1 : Int32) (p2 : Int32) (p3 : Int32) (p4 : Int32) (s : twS), K59 q p1 p2 p3 p4 (tw s q g) = (k59 p1 p2 p3 p4 s).map (zem q g)) (p1 : Int32) (p2 : Int32) (p4 : Int32) (s0 : Int32) (s : twS) : f_X6_rivalCells_b125 E K59 q p1 p2 p4 s0 (tw s q g) = (t_X6_rivalCells_b125 E k59 p1 p2 p4 s0 s).map (zem q g) := by
  unfold f_X6_rivalCells_b125 t_X6_rivalCells_b125
  exact ts_X6_rivalCells_b130 E q g hk59  _ _ _ _ _  _
def t_X6_rivalCells_l59 (E : zE) : Nat → Int32 → Int32 → Int32 → Int32 → twS → Option (Int32 × twS)
  | 0, _, _, _, _, _ => none
  | n + 1, p1, p2, p3, p4, s =>
    if (900 : Int32) ≤ p4 then (
      some (p3, s)
    ) else (
      (tdL s 1 ((250 : Int32) + p4)).bind fun x4 =>
      if x4 = (p1.toInt64) then (
        bnd2 (t_X6_nearestOutlet E p4 p1 s) fun x10 s8_ =>
        bnd2 (t_X6_nearestOutlet E p4 p2 s8_) fun x14 s12_ =>
        if x14 = (-1 : Int32) then (
          t_X6_rivalCells_b129 E (t_X6_rivalCells_l59 E n) p1 p2 p4 p3 s12_
        ) else (
          if x10 = (-1 : Int32) then (
            t_X6_rivalCells_b125 E (t_X6_rivalCells_l59 E n) p1 p2 p4 p3 s12_
          ) else (
            if x10 ≤ x14 then (
              t_X6_rivalCells_b129 E (t_X6_rivalCells_l59 E n) p1 p2 p4 p3 s12_
            ) else (
              t_X6_rivalCells_b125 E (t_X6_rivalCells_l59 E n) p1 p2 p4 p3 s12_
            )
          )
        )
      ) else (
        t_X6_rivalCells_b132 E (t_X6_rivalCells_l59 E n) p1 p2 p3 p4 s
      )
    )
theorem ts_X6_rivalCells_l59 (E : zE) (q : Nat) (g : zH) : ∀ (n : Nat) (p1 : Int32) (p2 : Int32) (p3 : Int32) (p4 : Int32) (s : twS), f_X6_rivalCells_l59 E n q p1 p2 p3 p4 (tw s q g) = (t_X6_rivalCells_l59 E n p1 p2 p3 p4 s).map (zem q g) := by
  intro n
  induction n with
  | zero => intros; rfl
  | succ n ih =>
    intro p1 p2 p3 p4 s
    unfold f_X6_rivalCells_l59 t_X6_rivalCells_l59
    refine tb6 ?_ ?_
    · rfl
    · refine tb1 (tw_gR_0 _ q g) ?_
      refine tb2 (tw_dL _ q g (by decide) _ ) fun x4 => ?_
      refine tb6 ?_ ?_
      · refine tb1 (tw_cko _ q g) ?_
        refine tb5 (ts_X6_nearestOutlet E q g  _ _  _) fun x10 s8_ => ?_
        refine tb1 (tw_cko _ q g) ?_
        refine tb5 (ts_X6_nearestOutlet E q g  _ _  _) fun x14 s12_ => ?_
        refine tb6 ?_ ?_
        · exact ts_X6_rivalCells_b129 E q g ih  _ _ _ _  _
        · refine tb6 ?_ ?_
          · exact ts_X6_rivalCells_b125 E q g ih  _ _ _ _  _
          · refine tb6 ?_ ?_
            · exact ts_X6_rivalCells_b129 E q g ih  _ _ _ _  _
            · exact ts_X6_rivalCells_b125 E q g ih  _ _ _ _  _
      · exact ts_X6_rivalCells_b132 E q g ih  _ _ _ _  _
def t_X6_rivalCells_b45 (E : zE) (p1 : Int32) (p2 : Int32) (s1 : Int32) (s : twS) : Option (Int32 × twS) :=
  bnd2 (t_X6_throwsIf E s1 (2 : Int32) s) fun x4 s2_ =>
  if x4 = 0 then (
    t_X6_rivalCells_l59 E E.1 p1 p2 (0 : Int32) (0 : Int32) s2_
  ) else (
    t_X6_rivalCells_b52 E s2_
  )
theorem ts_X6_rivalCells_b45 (E : zE) (q : Nat) (g : zH) (p1 : Int32) (p2 : Int32) (s1 : Int32) (s : twS) : f_X6_rivalCells_b45 E q p1 p2 q s1 (tw s q g) = (t_X6_rivalCells_b45 E p1 p2 s1 s).map (zem q g) := by
  unfold f_X6_rivalCells_b45 t_X6_rivalCells_b45
  refine tb1 (tw_cko _ q g) ?_
  refine tb5 (ts_X6_throwsIf E q g  _ _  _) fun x4 s2_ => ?_
  refine tb6 ?_ ?_
  · exact ts_X6_rivalCells_l59 E q g E.1 _ _ _ _  _
  · exact ts_X6_rivalCells_b52 E q g   _
def t_X6_rivalCells_b27 (E : zE) (p1 : Int32) (p2 : Int32) (s1 : Int32) (s : twS) : Option (Int32 × twS) :=
  bnd2 (t_X6_throwsIf E s1 (1 : Int32) s) fun x4 s2_ =>
  if x4 = 0 then (
    if p1 = p2 then (
      t_X6_rivalCells_b45 E p1 p2 (1 : Int32) s2_
    ) else (
      t_X6_rivalCells_b45 E p1 p2 (0 : Int32) s2_
    )
  ) else (
    t_X6_rivalCells_b52 E s2_
  )
theorem ts_X6_rivalCells_b27 (E : zE) (q : Nat) (g : zH) (p1 : Int32) (p2 : Int32) (s1 : Int32) (s : twS) : f_X6_rivalCells_b27 E q p1 p2 q s1 (tw s q g) = (t_X6_rivalCells_b27 E p1 p2 s1 s).map (zem q g) := by
  unfold f_X6_rivalCells_b27 t_X6_rivalCells_b27
  refine tb1 (tw_cko _ q g) ?_
  refine tb5 (ts_X6_throwsIf E q g  _ _  _) fun x4 s2_ => ?_
  refine tb6 ?_ ?_
  · refine tb6 ?_ ?_
    · exact ts_X6_rivalCells_b45 E q g  _ _ _  _
    · exact ts_X6_rivalCells_b45 E q g  _ _ _  _
  · exact ts_X6_rivalCells_b52 E q g   _
def t_X6_rivalCells_b22 (E : zE) (p1 : Int32) (p2 : Int32) (s : twS) : Option (Int32 × twS) :=
  t_X6_rivalCells_b27 E p1 p2 (1 : Int32) s
theorem ts_X6_rivalCells_b22 (E : zE) (q : Nat) (g : zH) (p1 : Int32) (p2 : Int32) (s : twS) : f_X6_rivalCells_b22 E q p1 p2 q (tw s q g) = (t_X6_rivalCells_b22 E p1 p2 s).map (zem q g) := by
  unfold f_X6_rivalCells_b22 t_X6_rivalCells_b22
  exact ts_X6_rivalCells_b27 E q g  _ _ _  _
def t_X6_rivalCells_b0 (E : zE) (p1 : Int32) (p2 : Int32) (s : twS) : Option (Int32 × twS) :=
  bnd2 (t_X6_isFranchisee E p1 (uSc s 2 (0 : Int32))) fun x6 s4_ =>
  if x6 = 0 then (
    t_X6_rivalCells_b22 E p1 p2 s4_
  ) else (
    bnd2 (t_X6_isFranchisee E p2 s4_) fun x11 s9_ =>
    if x11 = 0 then (
      t_X6_rivalCells_b22 E p1 p2 s9_
    ) else (
      t_X6_rivalCells_b27 E p1 p2 (0 : Int32) s9_
    )
  )
theorem ts_X6_rivalCells_b0 (E : zE) (q : Nat) (g : zH) (p1 : Int32) (p2 : Int32) (s : twS) : f_X6_rivalCells_b0 E q p1 p2 (tw s q g) = (t_X6_rivalCells_b0 E p1 p2 s).map (zem q g) := by
  unfold f_X6_rivalCells_b0 t_X6_rivalCells_b0
  refine tb1 (tw_pI_2 _ q g _) ?_
  refine tb1 (tw_cko _ q g) ?_
  refine tb5 (ts_X6_isFranchisee E q g  _  _) fun x6 s4_ => ?_
  refine tb6 ?_ ?_
  · exact ts_X6_rivalCells_b22 E q g  _ _  _
  · refine tb1 (tw_cko _ q g) ?_
    refine tb5 (ts_X6_isFranchisee E q g  _  _) fun x11 s9_ => ?_
    refine tb6 ?_ ?_
    · exact ts_X6_rivalCells_b22 E q g  _ _  _
    · exact ts_X6_rivalCells_b27 E q g  _ _ _  _
def t_X6_rivalCells (E : zE) (p1 : Int32) (p2 : Int32) (s : twS) : Option (Int32 × twS) :=
  t_X6_rivalCells_b0 E p1 p2 s
theorem ts_X6_rivalCells (E : zE) (q : Nat) (g : zH) (p1 : Int32) (p2 : Int32) (s : twS) : f_X6_rivalCells E q p1 p2 (tw s q g) = (t_X6_rivalCells E p1 p2 s).map (zem q g) := by
  unfold f_X6_rivalCells t_X6_rivalCells
  exact ts_X6_rivalCells_b0 E q g  _ _  _
def t_X6_cellsBefore_b66 (E : zE) (k5 : Int32 → Int32 → Int32 → Int32 → twS → Option (Int32 × twS)) (p1 : Int32) (p2 : Int32) (p4 : Int32) (s0 : Int32) (s1 : Int32) (s : twS) : Option (Int32 × twS) :=
  k5 p1 p2 (s0 + s1) (p4 + 1) s
theorem ts_X6_cellsBefore_b66 (E : zE) (q : Nat) (g : zH) {K5 : Nat → Int32 → Int32 → Int32 → Int32 → zH → Option (Int32 × zH)} {k5 : Int32 → Int32 → Int32 → Int32 → twS → Option (Int32 × twS)} (hk5 : ∀ (p1 : Int32) (p2 : Int32) (p3 : Int32) (p4 : Int32) (s : twS), K5 q p1 p2 p3 p4 (tw s q g) = (k5 p1 p2 p3 p4 s).map (zem q g)) (p1 : Int32) (p2 : Int32) (p4 : Int32) (s0 : Int32) (s1 : Int32) (s : twS) : f_X6_cellsBefore_b66 E K5 q p1 p2 p4 s0 s1 (tw s q g) = (t_X6_cellsBefore_b66 E k5 p1 p2 p4 s0 s1 s).map (zem q g) := by
  unfold f_X6_cellsBefore_b66 t_X6_cellsBefore_b66
  exact hk5 _ _ _ _  _
def t_X6_cellsBefore_b65 (E : zE) (k5 : Int32 → Int32 → Int32 → Int32 → twS → Option (Int32 × twS)) (p1 : Int32) (p2 : Int32) (p4 : Int32) (s0 : Int32) (s : twS) : Option (Int32 × twS) :=
  t_X6_cellsBefore_b66 E k5 p1 p2 p4 s0 (0 : Int32) s
theorem ts_X6_cellsBefore_b65 (E : zE) (q : Nat) (g : zH) {K5 : Nat → Int32 → Int32 → Int32 → Int32 → zH → Option (Int32 × zH)} {k5 : Int32 → Int32 → Int32 → Int32 → twS → Option (Int32 × twS)} (hk5 : ∀ (p1 : Int32) (p2 : Int32) (p3 : Int32) (p4 : Int32) (s : twS), K5 q p1 p2 p3 p4 (tw s q g) = (k5 p1 p2 p3 p4 s).map (zem q g)) (p1 : Int32) (p2 : Int32) (p4 : Int32) (s0 : Int32) (s : twS) : f_X6_cellsBefore_b65 E K5 q p1 p2 p4 s0 (tw s q g) = (t_X6_cellsBefore_b65 E k5 p1 p2 p4 s0 s).map (zem q g) := by
  unfold f_X6_cellsBefore_b65 t_X6_cellsBefore_b65
  exact ts_X6_cellsBefore_b66 E q g hk5  _ _ _ _ _  _
def t_X6_cellsBefore_b61 (E : zE) (k5 : Int32 → Int32 → Int32 → Int32 → twS → Option (Int32 × twS)) (p1 : Int32) (p2 : Int32) (p4 : Int32) (s0 : Int32) (s : twS) : Option (Int32 × twS) :=
  t_X6_cellsBefore_b66 E k5 p1 p2 p4 s0 (1 : Int32) s
theorem ts_X6_cellsBefore_b61 (E : zE) (q : Nat) (g : zH) {K5 : Nat → Int32 → Int32 → Int32 → Int32 → zH → Option (Int32 × zH)} {k5 : Int32 → Int32 → Int32 → Int32 → twS → Option (Int32 × twS)} (hk5 : ∀ (p1 : Int32) (p2 : Int32) (p3 : Int32) (p4 : Int32) (s : twS), K5 q p1 p2 p3 p4 (tw s q g) = (k5 p1 p2 p3 p4 s).map (zem q g)) (p1 : Int32) (p2 : Int32) (p4 : Int32) (s0 : Int32) (s : twS) : f_X6_cellsBefore_b61 E K5 q p1 p2 p4 s0 (tw s q g) = (t_X6_cellsBefore_b61 E k5 p1 p2 p4 s0 s).map (zem q g) := by
  unfold f_X6_cellsBefore_b61 t_X6_cellsBefore_b61
  exact ts_X6_cellsBefore_b66 E q g hk5  _ _ _ _ _  _
def t_X6_cellsBefore_l5 (E : zE) : Nat → Int32 → Int32 → Int32 → Int32 → twS → Option (Int32 × twS)
  | 0, _, _, _, _, _ => none
  | n + 1, p1, p2, p3, p4, s =>
    if (900 : Int32) ≤ p4 then (
      some (p3, s)
    ) else (
      (tdL s 1 ((250 : Int32) + p4)).bind fun x4 =>
      if x4 = (p1.toInt64) then (
        if (100 : Int32) ≤ p2 then (
          if (p2 - (100 : Int32)) ≤ (p4 / (30 : Int32)) then (
            t_X6_cellsBefore_b65 E (t_X6_cellsBefore_l5 E n) p1 p2 p4 p3 s
          ) else (
            t_X6_cellsBefore_b61 E (t_X6_cellsBefore_l5 E n) p1 p2 p4 p3 s
          )
        ) else (
          if p2 ≤ (p4 - p4 / (30 : Int32) * (30 : Int32)) then (
            t_X6_cellsBefore_b65 E (t_X6_cellsBefore_l5 E n) p1 p2 p4 p3 s
          ) else (
            t_X6_cellsBefore_b61 E (t_X6_cellsBefore_l5 E n) p1 p2 p4 p3 s
          )
        )
      ) else (
        t_X6_cellsBefore_b65 E (t_X6_cellsBefore_l5 E n) p1 p2 p4 p3 s
      )
    )
theorem ts_X6_cellsBefore_l5 (E : zE) (q : Nat) (g : zH) : ∀ (n : Nat) (p1 : Int32) (p2 : Int32) (p3 : Int32) (p4 : Int32) (s : twS), f_X6_cellsBefore_l5 E n q p1 p2 p3 p4 (tw s q g) = (t_X6_cellsBefore_l5 E n p1 p2 p3 p4 s).map (zem q g) := by
  intro n
  induction n with
  | zero => intros; rfl
  | succ n ih =>
    intro p1 p2 p3 p4 s
    unfold f_X6_cellsBefore_l5 t_X6_cellsBefore_l5
    refine tb6 ?_ ?_
    · rfl
    · refine tb1 (tw_gR_0 _ q g) ?_
      refine tb2 (tw_dL _ q g (by decide) _ ) fun x4 => ?_
      refine tb6 ?_ ?_
      · refine tb6 ?_ ?_
        · refine tb6 ?_ ?_
          · exact ts_X6_cellsBefore_b65 E q g ih  _ _ _ _  _
          · exact ts_X6_cellsBefore_b61 E q g ih  _ _ _ _  _
        · refine tb6 ?_ ?_
          · exact ts_X6_cellsBefore_b65 E q g ih  _ _ _ _  _
          · exact ts_X6_cellsBefore_b61 E q g ih  _ _ _ _  _
      · exact ts_X6_cellsBefore_b65 E q g ih  _ _ _ _  _
def t_X6_cellsBefore_b0 (E : zE) (p1 : Int32) (p2 : Int32) (s : twS) : Option (Int32 × twS) :=
  t_X6_cellsBefore_l5 E E.1 p1 p2 (0 : Int32) (0 : Int32) s
theorem ts_X6_cellsBefore_b0 (E : zE) (q : Nat) (g : zH) (p1 : Int32) (p2 : Int32) (s : twS) : f_X6_cellsBefore_b0 E q p1 p2 (tw s q g) = (t_X6_cellsBefore_b0 E p1 p2 s).map (zem q g) := by
  unfold f_X6_cellsBefore_b0 t_X6_cellsBefore_b0
  exact ts_X6_cellsBefore_l5 E q g E.1 _ _ _ _  _
def t_X6_cellsBefore (E : zE) (p1 : Int32) (p2 : Int32) (s : twS) : Option (Int32 × twS) :=
  t_X6_cellsBefore_b0 E p1 p2 s
theorem ts_X6_cellsBefore (E : zE) (q : Nat) (g : zH) (p1 : Int32) (p2 : Int32) (s : twS) : f_X6_cellsBefore E q p1 p2 (tw s q g) = (t_X6_cellsBefore E p1 p2 s).map (zem q g) := by
  unfold f_X6_cellsBefore t_X6_cellsBefore
  exact ts_X6_cellsBefore_b0 E q g  _ _  _
def t_X6_halvingLine_b121 (E : zE) (p3 : Int32) (s : twS) : Option (Int32 × twS) :=
  some (p3, s)
theorem ts_X6_halvingLine_b121 (E : zE) (q : Nat) (g : zH) (p3 : Int32) (s : twS) : f_X6_halvingLine_b121 E p3 (tw s q g) = (t_X6_halvingLine_b121 E p3 s).map (zem q g) := by
  unfold f_X6_halvingLine_b121 t_X6_halvingLine_b121
  rfl
def t_X6_halvingLine_b115 (E : zE) (k42 : Int32 → Int32 → Int32 → Int32 → Int32 → twS → Option (Int32 × twS)) (p1 : Int32) (p2 : Int32) (p3 : Int32) (p4 : Int32) (p5 : Int32) (s : twS) : Option (Int32 × twS) :=
  k42 p1 p2 p3 p4 (p5 + 1) s
theorem ts_X6_halvingLine_b115 (E : zE) (q : Nat) (g : zH) {K42 : Nat → Int32 → Int32 → Int32 → Int32 → Int32 → zH → Option (Int32 × zH)} {k42 : Int32 → Int32 → Int32 → Int32 → Int32 → twS → Option (Int32 × twS)} (hk42 : ∀ (p1 : Int32) (p2 : Int32) (p3 : Int32) (p4 : Int32) (p5 : Int32) (s : twS), K42 q p1 p2 p3 p4 p5 (tw s q g) = (k42 p1 p2 p3 p4 p5 s).map (zem q g)) (p1 : Int32) (p2 : Int32) (p3 : Int32) (p4 : Int32) (p5 : Int32) (s : twS) : f_X6_halvingLine_b115 E K42 q p1 p2 p3 p4 p5 (tw s q g) = (t_X6_halvingLine_b115 E k42 p1 p2 p3 p4 p5 s).map (zem q g) := by
  unfold f_X6_halvingLine_b115 t_X6_halvingLine_b115
  exact hk42 _ _ _ _ _  _
def t_X6_halvingLine_b108 (E : zE) (k42 : Int32 → Int32 → Int32 → Int32 → Int32 → twS → Option (Int32 × twS)) (p1 : Int32) (p2 : Int32) (p5 : Int32) (p6 : Int32) (p7 : Int32) (s : twS) : Option (Int32 × twS) :=
  t_X6_halvingLine_b115 E k42 p1 p2 p6 p7 p5 s
theorem ts_X6_halvingLine_b108 (E : zE) (q : Nat) (g : zH) {K42 : Nat → Int32 → Int32 → Int32 → Int32 → Int32 → zH → Option (Int32 × zH)} {k42 : Int32 → Int32 → Int32 → Int32 → Int32 → twS → Option (Int32 × twS)} (hk42 : ∀ (p1 : Int32) (p2 : Int32) (p3 : Int32) (p4 : Int32) (p5 : Int32) (s : twS), K42 q p1 p2 p3 p4 p5 (tw s q g) = (k42 p1 p2 p3 p4 p5 s).map (zem q g)) (p1 : Int32) (p2 : Int32) (p5 : Int32) (p6 : Int32) (p7 : Int32) (s : twS) : f_X6_halvingLine_b108 E K42 q p1 p2 p5 p6 p7 (tw s q g) = (t_X6_halvingLine_b108 E k42 p1 p2 p5 p6 p7 s).map (zem q g) := by
  unfold f_X6_halvingLine_b108 t_X6_halvingLine_b108
  exact ts_X6_halvingLine_b115 E q g hk42  _ _ _ _ _  _
def t_X6_halvingLine_b75 (E : zE) (k42 : Int32 → Int32 → Int32 → Int32 → Int32 → twS → Option (Int32 × twS)) (p1 : Int32) (p2 : Int32) (p3 : Int32) (p4 : Int32) (p5 : Int32) (s0 : Int32) (s : twS) : Option (Int32 × twS) :=
  bnd2 (t_X6_cellsBefore E p1 s0 s) fun x4 s2_ =>
  bnd2 (t_X6_size E (p2 - ((2 : Int32) * x4)) s2_) fun x7 s5_ =>
  if p3 = (-1 : Int32) then (
    t_X6_halvingLine_b108 E k42 p1 p2 p5 s0 x7 s5_
  ) else (
    if x7 < p4 then (
      t_X6_halvingLine_b108 E k42 p1 p2 p5 s0 x7 s5_
    ) else (
      t_X6_halvingLine_b115 E k42 p1 p2 p3 p4 p5 s5_
    )
  )
theorem ts_X6_halvingLine_b75 (E : zE) (q : Nat) (g : zH) {K42 : Nat → Int32 → Int32 → Int32 → Int32 → Int32 → zH → Option (Int32 × zH)} {k42 : Int32 → Int32 → Int32 → Int32 → Int32 → twS → Option (Int32 × twS)} (hk42 : ∀ (p1 : Int32) (p2 : Int32) (p3 : Int32) (p4 : Int32) (p5 : Int32) (s : twS), K42 q p1 p2 p3 p4 p5 (tw s q g) = (k42 p1 p2 p3 p4 p5 s).map (zem q g)) (p1 : Int32) (p2 : Int32) (p3 : Int32) (p4 : Int32) (p5 : Int32) (s0 : Int32) (s : twS) : f_X6_halvingLine_b75 E K42 q p1 p2 p3 p4 p5 s0 (tw s q g) = (t_X6_halvingLine_b75 E k42 p1 p2 p3 p4 p5 s0 s).map (zem q g) := by
  unfold f_X6_halvingLine_b75 t_X6_halvingLine_b75
  refine tb1 (tw_cko _ q g) ?_
  refine tb5 (ts_X6_cellsBefore E q g  _ _  _) fun x4 s2_ => ?_
  refine tb5 (ts_X6_size E q g  _  _) fun x7 s5_ => ?_
  refine tb6 ?_ ?_
  · exact ts_X6_halvingLine_b108 E q g hk42  _ _ _ _ _  _
  · refine tb6 ?_ ?_
    · exact ts_X6_halvingLine_b108 E q g hk42  _ _ _ _ _  _
    · exact ts_X6_halvingLine_b115 E q g hk42  _ _ _ _ _  _
def t_X6_halvingLine_l42 (E : zE) : Nat → Int32 → Int32 → Int32 → Int32 → Int32 → twS → Option (Int32 × twS)
  | 0, _, _, _, _, _, _ => none
  | n + 1, p1, p2, p3, p4, p5, s =>
    if (58 : Int32) ≤ p5 then (
      t_X6_halvingLine_b121 E p3 s
    ) else (
      if p2 ≤ 0 then (
        t_X6_halvingLine_b121 E p3 s
      ) else (
        if (29 : Int32) ≤ p5 then (
          t_X6_halvingLine_b75 E (t_X6_halvingLine_l42 E n) p1 p2 p3 p4 p5 (((100 : Int32) + p5) - (28 : Int32)) s
        ) else (
          t_X6_halvingLine_b75 E (t_X6_halvingLine_l42 E n) p1 p2 p3 p4 p5 (p5 + (1 : Int32)) s
        )
      )
    )
theorem ts_X6_halvingLine_l42 (E : zE) (q : Nat) (g : zH) : ∀ (n : Nat) (p1 : Int32) (p2 : Int32) (p3 : Int32) (p4 : Int32) (p5 : Int32) (s : twS), f_X6_halvingLine_l42 E n q p1 p2 p3 p4 p5 (tw s q g) = (t_X6_halvingLine_l42 E n p1 p2 p3 p4 p5 s).map (zem q g) := by
  intro n
  induction n with
  | zero => intros; rfl
  | succ n ih =>
    intro p1 p2 p3 p4 p5 s
    unfold f_X6_halvingLine_l42 t_X6_halvingLine_l42
    refine tb6 ?_ ?_
    · exact ts_X6_halvingLine_b121 E q g  _  _
    · refine tb6 ?_ ?_
      · exact ts_X6_halvingLine_b121 E q g  _  _
      · refine tb6 ?_ ?_
        · exact ts_X6_halvingLine_b75 E q g ih  _ _ _ _ _ _  _
        · exact ts_X6_halvingLine_b75 E q g ih  _ _ _ _ _ _  _
def t_X6_halvingLine_b19 (E : zE) (p1 : Int32) (s1 : Int32) (s : twS) : Option (Int32 × twS) :=
  bnd2 (t_X6_throwsIf E s1 (1 : Int32) s) fun x4 s2_ =>
  if x4 = 0 then (
    bnd2 (t_X6_areaOf E p1 s2_) fun x9 s7_ =>
    t_X6_halvingLine_l42 E E.1 p1 x9 (-1 : Int32) (0 : Int32) (0 : Int32) s7_
  ) else (
    some ((0 : Int32), s2_)
  )
theorem ts_X6_halvingLine_b19 (E : zE) (q : Nat) (g : zH) (p1 : Int32) (s1 : Int32) (s : twS) : f_X6_halvingLine_b19 E q p1 q s1 (tw s q g) = (t_X6_halvingLine_b19 E p1 s1 s).map (zem q g) := by
  unfold f_X6_halvingLine_b19 t_X6_halvingLine_b19
  refine tb1 (tw_cko _ q g) ?_
  refine tb5 (ts_X6_throwsIf E q g  _ _  _) fun x4 s2_ => ?_
  refine tb6 ?_ ?_
  · refine tb1 (tw_cko _ q g) ?_
    refine tb5 (ts_X6_areaOf E q g  _  _) fun x9 s7_ => ?_
    exact ts_X6_halvingLine_l42 E q g E.1 _ _ _ _ _  _
  · rfl
def t_X6_halvingLine_b0 (E : zE) (p1 : Int32) (s : twS) : Option (Int32 × twS) :=
  bnd2 (t_X6_isFranchisee E p1 (uSc s 2 (0 : Int32))) fun x6 s4_ =>
  if x6 = 0 then (
    t_X6_halvingLine_b19 E p1 (1 : Int32) s4_
  ) else (
    t_X6_halvingLine_b19 E p1 (0 : Int32) s4_
  )
theorem ts_X6_halvingLine_b0 (E : zE) (q : Nat) (g : zH) (p1 : Int32) (s : twS) : f_X6_halvingLine_b0 E q p1 (tw s q g) = (t_X6_halvingLine_b0 E p1 s).map (zem q g) := by
  unfold f_X6_halvingLine_b0 t_X6_halvingLine_b0
  refine tb1 (tw_pI_2 _ q g _) ?_
  refine tb1 (tw_cko _ q g) ?_
  refine tb5 (ts_X6_isFranchisee E q g  _  _) fun x6 s4_ => ?_
  refine tb6 ?_ ?_
  · exact ts_X6_halvingLine_b19 E q g  _ _  _
  · exact ts_X6_halvingLine_b19 E q g  _ _  _
def t_X6_halvingLine (E : zE) (p1 : Int32) (s : twS) : Option (Int32 × twS) :=
  t_X6_halvingLine_b0 E p1 s
theorem ts_X6_halvingLine (E : zE) (q : Nat) (g : zH) (p1 : Int32) (s : twS) : f_X6_halvingLine E q p1 (tw s q g) = (t_X6_halvingLine E p1 s).map (zem q g) := by
  unfold f_X6_halvingLine t_X6_halvingLine
  exact ts_X6_halvingLine_b0 E q g  _  _
def t_X6_isPlan_b0 (E : zE) (p1 : Int32) (s : twS) : Option (Int32 × twS) :=
  (tdL s 1 (1 : Int32)).bind fun x3 =>
  bnd2 (t_X6_inRange E (p1.toInt64) (0 : Int64) (x3 - (1 : Int64)) s) fun x7 s5_ =>
  (zgd .boolean x7).bind fun _ =>
  some (x7, s5_)
theorem ts_X6_isPlan_b0 (E : zE) (q : Nat) (g : zH) (p1 : Int32) (s : twS) : f_X6_isPlan_b0 E q p1 (tw s q g) = (t_X6_isPlan_b0 E p1 s).map (zem q g) := by
  unfold f_X6_isPlan_b0 t_X6_isPlan_b0
  refine tb1 (tw_gR_0 _ q g) ?_
  refine tb2 (tw_dL _ q g (by decide) _ ) fun x3 => ?_
  refine tb5 (ts_X6_inRange E q g  _ _ _  _) fun x7 s5_ => ?_
  refine tb2 rfl fun _ => ?_
  rfl
def t_X6_isPlan (E : zE) (p1 : Int32) (s : twS) : Option (Int32 × twS) :=
  t_X6_isPlan_b0 E p1 s
theorem ts_X6_isPlan (E : zE) (q : Nat) (g : zH) (p1 : Int32) (s : twS) : f_X6_isPlan E q p1 (tw s q g) = (t_X6_isPlan E p1 s).map (zem q g) := by
  unfold f_X6_isPlan t_X6_isPlan
  exact ts_X6_isPlan_b0 E q g  _  _
def t_X6_ofPlan_b0 (E : zE) (p1 : Int32) (p2 : Int32) (s : twS) : Option (Int64 × twS) :=
  (tdL s 1 (((14 : Int32) + ((11 : Int32) * p1)) + p2)).bind fun x3 =>
  some (x3, s)
theorem ts_X6_ofPlan_b0 (E : zE) (q : Nat) (g : zH) (p1 : Int32) (p2 : Int32) (s : twS) : f_X6_ofPlan_b0 E q p1 p2 (tw s q g) = (t_X6_ofPlan_b0 E p1 p2 s).map (zem q g) := by
  unfold f_X6_ofPlan_b0 t_X6_ofPlan_b0
  refine tb1 (tw_gR_0 _ q g) ?_
  refine tb2 (tw_dL _ q g (by decide) _ ) fun x3 => ?_
  rfl
def t_X6_ofPlan (E : zE) (p1 : Int32) (p2 : Int32) (s : twS) : Option (Int64 × twS) :=
  t_X6_ofPlan_b0 E p1 p2 s
theorem ts_X6_ofPlan (E : zE) (q : Nat) (g : zH) (p1 : Int32) (p2 : Int32) (s : twS) : f_X6_ofPlan E q p1 p2 (tw s q g) = (t_X6_ofPlan E p1 p2 s).map (zem q g) := by
  unfold f_X6_ofPlan t_X6_ofPlan
  exact ts_X6_ofPlan_b0 E q g  _ _  _
def t_X6_half_b0 (E : zE) (p0 : Int64) (s : twS) : Option (Int64 × twS) :=
  some (((p0 + (5000 : Int64)) / (10000 : Int64)), s)
theorem ts_X6_half_b0 (E : zE) (q : Nat) (g : zH) (p0 : Int64) (s : twS) : f_X6_half_b0 E p0 (tw s q g) = (t_X6_half_b0 E p0 s).map (zem q g) := by
  unfold f_X6_half_b0 t_X6_half_b0
  rfl
def t_X6_half (E : zE) (p0 : Int64) (s : twS) : Option (Int64 × twS) :=
  t_X6_half_b0 E p0 s
theorem ts_X6_half (E : zE) (q : Nat) (g : zH) (p0 : Int64) (s : twS) : f_X6_half E p0 (tw s q g) = (t_X6_half E p0 s).map (zem q g) := by
  unfold f_X6_half t_X6_half
  exact ts_X6_half_b0 E q g  _  _
def t_X6_royaltyOf_b137 (E : zE) (k17 : Int32 → Int64 → Int64 → Int64 → Int64 → Int32 → twS → Option (Int64 × twS)) (p1 : Int32) (p2 : Int64) (p4 : Int64) (p6 : Int64) (p8 : Int64) (p10 : Int32) (s : twS) : Option (Int64 × twS) :=
  k17 p1 p2 p4 p6 p8 (p10 + 1) s
theorem ts_X6_royaltyOf_b137 (E : zE) (q : Nat) (g : zH) {K17 : Nat → Int32 → Int64 → Int64 → Int64 → Int64 → Int32 → zH → Option (Int64 × zH)} {k17 : Int32 → Int64 → Int64 → Int64 → Int64 → Int32 → twS → Option (Int64 × twS)} (hk17 : ∀ (p1 : Int32) (p2 : Int64) (p4 : Int64) (p6 : Int64) (p8 : Int64) (p10 : Int32) (s : twS), K17 q p1 p2 p4 p6 p8 p10 (tw s q g) = (k17 p1 p2 p4 p6 p8 p10 s).map (zem q g)) (p1 : Int32) (p2 : Int64) (p4 : Int64) (p6 : Int64) (p8 : Int64) (p10 : Int32) (s : twS) : f_X6_royaltyOf_b137 E K17 q p1 p2 p4 p6 p8 p10 (tw s q g) = (t_X6_royaltyOf_b137 E k17 p1 p2 p4 p6 p8 p10 s).map (zem q g) := by
  unfold f_X6_royaltyOf_b137 t_X6_royaltyOf_b137
  exact hk17 _ _ _ _ _ _  _
def t_X6_royaltyOf_b106 (E : zE) (k17 : Int32 → Int64 → Int64 → Int64 → Int64 → Int32 → twS → Option (Int64 × twS)) (p1 : Int32) (p2 : Int64) (p4 : Int64) (p6 : Int64) (p8 : Int64) (p10 : Int32) (p11 : Int32) (s : twS) : Option (Int64 × twS) :=
  if p11 = 0 then (
    bnd2 (t_X6_ofPlan E p1 ((3 : Int32) + p10) s) fun x5 s3_ =>
    bnd2 (t_X6_ofPlan E p1 ((7 : Int32) + p10) s3_) fun x9 s7_ =>
    t_X6_royaltyOf_b137 E k17 p1 p2 p4 x5 x9 p10 s7_
  ) else (
    t_X6_royaltyOf_b137 E k17 p1 p2 p4 p6 p8 p10 s
  )
theorem ts_X6_royaltyOf_b106 (E : zE) (q : Nat) (g : zH) {K17 : Nat → Int32 → Int64 → Int64 → Int64 → Int64 → Int32 → zH → Option (Int64 × zH)} {k17 : Int32 → Int64 → Int64 → Int64 → Int64 → Int32 → twS → Option (Int64 × twS)} (hk17 : ∀ (p1 : Int32) (p2 : Int64) (p4 : Int64) (p6 : Int64) (p8 : Int64) (p10 : Int32) (s : twS), K17 q p1 p2 p4 p6 p8 p10 (tw s q g) = (k17 p1 p2 p4 p6 p8 p10 s).map (zem q g)) (p1 : Int32) (p2 : Int64) (p4 : Int64) (p6 : Int64) (p8 : Int64) (p10 : Int32) (p11 : Int32) (s : twS) : f_X6_royaltyOf_b106 E K17 q p1 p2 p4 p6 p8 p10 p11 (tw s q g) = (t_X6_royaltyOf_b106 E k17 p1 p2 p4 p6 p8 p10 p11 s).map (zem q g) := by
  unfold f_X6_royaltyOf_b106 t_X6_royaltyOf_b106
  refine tb6 ?_ ?_
  · refine tb1 (tw_cko _ q g) ?_
    refine tb5 (ts_X6_ofPlan E q g  _ _  _) fun x5 s3_ => ?_
    refine tb1 (tw_cko _ q g) ?_
    refine tb5 (ts_X6_ofPlan E q g  _ _  _) fun x9 s7_ => ?_
    exact ts_X6_royaltyOf_b137 E q g hk17  _ _ _ _ _ _  _
  · exact ts_X6_royaltyOf_b137 E q g hk17  _ _ _ _ _ _  _
def t_X6_royaltyOf_b83 (E : zE) (k17 : Int32 → Int64 → Int64 → Int64 → Int64 → Int32 → twS → Option (Int64 × twS)) (p1 : Int32) (p2 : Int64) (p4 : Int64) (p6 : Int64) (p8 : Int64) (p10 : Int32) (p11 : Int32) (s0 : Int64) (s : twS) : Option (Int64 × twS) :=
  if s0 ≤ p6 then (
    t_X6_royaltyOf_b106 E k17 p1 p2 p4 p6 p8 p10 p11 s
  ) else (
    t_X6_royaltyOf_b106 E k17 p1 p2 (p4 + ((s0 - p6) * p8)) p6 p8 p10 p11 s
  )
theorem ts_X6_royaltyOf_b83 (E : zE) (q : Nat) (g : zH) {K17 : Nat → Int32 → Int64 → Int64 → Int64 → Int64 → Int32 → zH → Option (Int64 × zH)} {k17 : Int32 → Int64 → Int64 → Int64 → Int64 → Int32 → twS → Option (Int64 × twS)} (hk17 : ∀ (p1 : Int32) (p2 : Int64) (p4 : Int64) (p6 : Int64) (p8 : Int64) (p10 : Int32) (s : twS), K17 q p1 p2 p4 p6 p8 p10 (tw s q g) = (k17 p1 p2 p4 p6 p8 p10 s).map (zem q g)) (p1 : Int32) (p2 : Int64) (p4 : Int64) (p6 : Int64) (p8 : Int64) (p10 : Int32) (p11 : Int32) (s0 : Int64) (s : twS) : f_X6_royaltyOf_b83 E K17 q p1 p2 p4 p6 p8 p10 p11 s0 (tw s q g) = (t_X6_royaltyOf_b83 E k17 p1 p2 p4 p6 p8 p10 p11 s0 s).map (zem q g) := by
  unfold f_X6_royaltyOf_b83 t_X6_royaltyOf_b83
  refine tb6 ?_ ?_
  · exact ts_X6_royaltyOf_b106 E q g hk17  _ _ _ _ _ _ _  _
  · exact ts_X6_royaltyOf_b106 E q g hk17  _ _ _ _ _ _ _  _
def t_X6_royaltyOf_b68 (E : zE) (k17 : Int32 → Int64 → Int64 → Int64 → Int64 → Int32 → twS → Option (Int64 × twS)) (p1 : Int32) (p2 : Int64) (p4 : Int64) (p6 : Int64) (p8 : Int64) (p10 : Int32) (p11 : Int32) (s0 : Int64) (s : twS) : Option (Int64 × twS) :=
  if p2 ≤ s0 then (
    t_X6_royaltyOf_b83 E k17 p1 p2 p4 p6 p8 p10 p11 p2 s
  ) else (
    t_X6_royaltyOf_b83 E k17 p1 p2 p4 p6 p8 p10 p11 s0 s
  )
theorem ts_X6_royaltyOf_b68 (E : zE) (q : Nat) (g : zH) {K17 : Nat → Int32 → Int64 → Int64 → Int64 → Int64 → Int32 → zH → Option (Int64 × zH)} {k17 : Int32 → Int64 → Int64 → Int64 → Int64 → Int32 → twS → Option (Int64 × twS)} (hk17 : ∀ (p1 : Int32) (p2 : Int64) (p4 : Int64) (p6 : Int64) (p8 : Int64) (p10 : Int32) (s : twS), K17 q p1 p2 p4 p6 p8 p10 (tw s q g) = (k17 p1 p2 p4 p6 p8 p10 s).map (zem q g)) (p1 : Int32) (p2 : Int64) (p4 : Int64) (p6 : Int64) (p8 : Int64) (p10 : Int32) (p11 : Int32) (s0 : Int64) (s : twS) : f_X6_royaltyOf_b68 E K17 q p1 p2 p4 p6 p8 p10 p11 s0 (tw s q g) = (t_X6_royaltyOf_b68 E k17 p1 p2 p4 p6 p8 p10 p11 s0 s).map (zem q g) := by
  unfold f_X6_royaltyOf_b68 t_X6_royaltyOf_b68
  refine tb6 ?_ ?_
  · exact ts_X6_royaltyOf_b83 E q g hk17  _ _ _ _ _ _ _ _  _
  · exact ts_X6_royaltyOf_b83 E q g hk17  _ _ _ _ _ _ _ _  _
def t_X6_royaltyOf_b48 (E : zE) (k17 : Int32 → Int64 → Int64 → Int64 → Int64 → Int32 → twS → Option (Int64 × twS)) (p1 : Int32) (p2 : Int64) (p4 : Int64) (p6 : Int64) (p8 : Int64) (p10 : Int32) (s0 : Int32) (s : twS) : Option (Int64 × twS) :=
  if s0 = 0 then (
    bnd2 (t_X6_ofPlan E p1 ((3 : Int32) + p10) s) fun x5 s3_ =>
    t_X6_royaltyOf_b68 E k17 p1 p2 p4 p6 p8 p10 s0 x5 s3_
  ) else (
    t_X6_royaltyOf_b68 E k17 p1 p2 p4 p6 p8 p10 s0 p2 s
  )
theorem ts_X6_royaltyOf_b48 (E : zE) (q : Nat) (g : zH) {K17 : Nat → Int32 → Int64 → Int64 → Int64 → Int64 → Int32 → zH → Option (Int64 × zH)} {k17 : Int32 → Int64 → Int64 → Int64 → Int64 → Int32 → twS → Option (Int64 × twS)} (hk17 : ∀ (p1 : Int32) (p2 : Int64) (p4 : Int64) (p6 : Int64) (p8 : Int64) (p10 : Int32) (s : twS), K17 q p1 p2 p4 p6 p8 p10 (tw s q g) = (k17 p1 p2 p4 p6 p8 p10 s).map (zem q g)) (p1 : Int32) (p2 : Int64) (p4 : Int64) (p6 : Int64) (p8 : Int64) (p10 : Int32) (s0 : Int32) (s : twS) : f_X6_royaltyOf_b48 E K17 q p1 p2 p4 p6 p8 p10 s0 (tw s q g) = (t_X6_royaltyOf_b48 E k17 p1 p2 p4 p6 p8 p10 s0 s).map (zem q g) := by
  unfold f_X6_royaltyOf_b48 t_X6_royaltyOf_b48
  refine tb6 ?_ ?_
  · refine tb1 (tw_cko _ q g) ?_
    refine tb5 (ts_X6_ofPlan E q g  _ _  _) fun x5 s3_ => ?_
    exact ts_X6_royaltyOf_b68 E q g hk17  _ _ _ _ _ _ _ _  _
  · exact ts_X6_royaltyOf_b68 E q g hk17  _ _ _ _ _ _ _ _  _
def t_X6_royaltyOf_l17 (E : zE) : Nat → Int32 → Int64 → Int64 → Int64 → Int64 → Int32 → twS → Option (Int64 × twS)
  | 0, _, _, _, _, _, _, _ => none
  | n + 1, p1, p2, p4, p6, p8, p10, s =>
    bnd2 (t_X6_ofPlan E p1 (2 : Int32) s) fun x4 s2_ =>
    if x4 < (p10.toInt64) then (
      bnd2 (t_X6_half E p4 s2_) fun x8 s6_ =>
      some (x8, s6_)
    ) else (
      bnd2 (t_X6_ofPlan E p1 (2 : Int32) s2_) fun x12 s10_ =>
      if (p10.toInt64) = x12 then (
        t_X6_royaltyOf_b48 E (t_X6_royaltyOf_l17 E n) p1 p2 p4 p6 p8 p10 (1 : Int32) s10_
      ) else (
        t_X6_royaltyOf_b48 E (t_X6_royaltyOf_l17 E n) p1 p2 p4 p6 p8 p10 (0 : Int32) s10_
      )
    )
theorem ts_X6_royaltyOf_l17 (E : zE) (q : Nat) (g : zH) : ∀ (n : Nat) (p1 : Int32) (p2 : Int64) (p4 : Int64) (p6 : Int64) (p8 : Int64) (p10 : Int32) (s : twS), f_X6_royaltyOf_l17 E n q p1 p2 p4 p6 p8 p10 (tw s q g) = (t_X6_royaltyOf_l17 E n p1 p2 p4 p6 p8 p10 s).map (zem q g) := by
  intro n
  induction n with
  | zero => intros; rfl
  | succ n ih =>
    intro p1 p2 p4 p6 p8 p10 s
    unfold f_X6_royaltyOf_l17 t_X6_royaltyOf_l17
    refine tb1 (tw_cko _ q g) ?_
    refine tb5 (ts_X6_ofPlan E q g  _ _  _) fun x4 s2_ => ?_
    refine tb6 ?_ ?_
    · refine tb5 (ts_X6_half E q g  _  _) fun x8 s6_ => ?_
      rfl
    · refine tb1 (tw_cko _ q g) ?_
      refine tb5 (ts_X6_ofPlan E q g  _ _  _) fun x12 s10_ => ?_
      refine tb6 ?_ ?_
      · exact ts_X6_royaltyOf_b48 E q g ih  _ _ _ _ _ _ _  _
      · exact ts_X6_royaltyOf_b48 E q g ih  _ _ _ _ _ _ _  _
def t_X6_royaltyOf_b0 (E : zE) (p1 : Int32) (p2 : Int64) (s : twS) : Option (Int64 × twS) :=
  bnd2 (t_X6_ofPlan E p1 (1 : Int32) s) fun x4 s2_ =>
  t_X6_royaltyOf_l17 E E.1 p1 p2 (0 : Int64) (0 : Int64) x4 (0 : Int32) s2_
theorem ts_X6_royaltyOf_b0 (E : zE) (q : Nat) (g : zH) (p1 : Int32) (p2 : Int64) (s : twS) : f_X6_royaltyOf_b0 E q p1 p2 (tw s q g) = (t_X6_royaltyOf_b0 E p1 p2 s).map (zem q g) := by
  unfold f_X6_royaltyOf_b0 t_X6_royaltyOf_b0
  refine tb1 (tw_cko _ q g) ?_
  refine tb5 (ts_X6_ofPlan E q g  _ _  _) fun x4 s2_ => ?_
  exact ts_X6_royaltyOf_l17 E q g E.1 _ _ _ _ _ _  _
def t_X6_royaltyOf (E : zE) (p1 : Int32) (p2 : Int64) (s : twS) : Option (Int64 × twS) :=
  t_X6_royaltyOf_b0 E p1 p2 s
theorem ts_X6_royaltyOf (E : zE) (q : Nat) (g : zH) (p1 : Int32) (p2 : Int64) (s : twS) : f_X6_royaltyOf E q p1 p2 (tw s q g) = (t_X6_royaltyOf E p1 p2 s).map (zem q g) := by
  unfold f_X6_royaltyOf t_X6_royaltyOf
  exact ts_X6_royaltyOf_b0 E q g  _ _  _
def t_X6_royalty_b60 (E : zE) (s0 : Int64) (s : twS) : Option (Int64 × twS) :=
  some (s0, s)
theorem ts_X6_royalty_b60 (E : zE) (q : Nat) (g : zH) (s0 : Int64) (s : twS) : f_X6_royalty_b60 E s0 (tw s q g) = (t_X6_royalty_b60 E s0 s).map (zem q g) := by
  unfold f_X6_royalty_b60 t_X6_royalty_b60
  rfl
def t_X6_royalty_b50 (E : zE) (s : twS) : Option (Int64 × twS) :=
  t_X6_royalty_b60 E (0 : Int64) s
theorem ts_X6_royalty_b50 (E : zE) (q : Nat) (g : zH) (s : twS) : f_X6_royalty_b50 E  (tw s q g) = (t_X6_royalty_b50 E  s).map (zem q g) := by
  unfold f_X6_royalty_b50 t_X6_royalty_b50
  exact ts_X6_royalty_b60 E q g  _  _
def t_X6_royalty_b43 (E : zE) (p1 : Int32) (p2 : Int64) (s1 : Int32) (s : twS) : Option (Int64 × twS) :=
  bnd2 (t_X6_throwsIf E s1 (2 : Int32) s) fun x4 s2_ =>
  if x4 = 0 then (
    bnd2 (t_X6_royaltyOf E p1 p2 s2_) fun x9 s7_ =>
    t_X6_royalty_b60 E x9 s7_
  ) else (
    t_X6_royalty_b50 E s2_
  )
theorem ts_X6_royalty_b43 (E : zE) (q : Nat) (g : zH) (p1 : Int32) (p2 : Int64) (s1 : Int32) (s : twS) : f_X6_royalty_b43 E q p1 p2 q s1 (tw s q g) = (t_X6_royalty_b43 E p1 p2 s1 s).map (zem q g) := by
  unfold f_X6_royalty_b43 t_X6_royalty_b43
  refine tb1 (tw_cko _ q g) ?_
  refine tb5 (ts_X6_throwsIf E q g  _ _  _) fun x4 s2_ => ?_
  refine tb6 ?_ ?_
  · refine tb1 (tw_cko _ q g) ?_
    refine tb5 (ts_X6_royaltyOf E q g  _ _  _) fun x9 s7_ => ?_
    exact ts_X6_royalty_b60 E q g  _  _
  · exact ts_X6_royalty_b50 E q g   _
def t_X6_royalty_b19 (E : zE) (p1 : Int32) (p2 : Int64) (s1 : Int32) (s : twS) : Option (Int64 × twS) :=
  bnd2 (t_X6_throwsIf E s1 (1 : Int32) s) fun x4 s2_ =>
  if x4 = 0 then (
    bnd2 (t_X6_inRange E p2 (0 : Int64) (1000000000 : Int64) s2_) fun x8 s6_ =>
    if x8 = 0 then (
      t_X6_royalty_b43 E p1 p2 (1 : Int32) s6_
    ) else (
      t_X6_royalty_b43 E p1 p2 (0 : Int32) s6_
    )
  ) else (
    t_X6_royalty_b50 E s2_
  )
theorem ts_X6_royalty_b19 (E : zE) (q : Nat) (g : zH) (p1 : Int32) (p2 : Int64) (s1 : Int32) (s : twS) : f_X6_royalty_b19 E q p1 p2 q s1 (tw s q g) = (t_X6_royalty_b19 E p1 p2 s1 s).map (zem q g) := by
  unfold f_X6_royalty_b19 t_X6_royalty_b19
  refine tb1 (tw_cko _ q g) ?_
  refine tb5 (ts_X6_throwsIf E q g  _ _  _) fun x4 s2_ => ?_
  refine tb6 ?_ ?_
  · refine tb5 (ts_X6_inRange E q g  _ _ _  _) fun x8 s6_ => ?_
    refine tb6 ?_ ?_
    · exact ts_X6_royalty_b43 E q g  _ _ _  _
    · exact ts_X6_royalty_b43 E q g  _ _ _  _
  · exact ts_X6_royalty_b50 E q g   _
def t_X6_royalty_b0 (E : zE) (p1 : Int32) (p2 : Int64) (s : twS) : Option (Int64 × twS) :=
  bnd2 (t_X6_isPlan E p1 (uSc s 2 (0 : Int32))) fun x6 s4_ =>
  if x6 = 0 then (
    t_X6_royalty_b19 E p1 p2 (1 : Int32) s4_
  ) else (
    t_X6_royalty_b19 E p1 p2 (0 : Int32) s4_
  )
theorem ts_X6_royalty_b0 (E : zE) (q : Nat) (g : zH) (p1 : Int32) (p2 : Int64) (s : twS) : f_X6_royalty_b0 E q p1 p2 (tw s q g) = (t_X6_royalty_b0 E p1 p2 s).map (zem q g) := by
  unfold f_X6_royalty_b0 t_X6_royalty_b0
  refine tb1 (tw_pI_2 _ q g _) ?_
  refine tb1 (tw_cko _ q g) ?_
  refine tb5 (ts_X6_isPlan E q g  _  _) fun x6 s4_ => ?_
  refine tb6 ?_ ?_
  · exact ts_X6_royalty_b19 E q g  _ _ _  _
  · exact ts_X6_royalty_b19 E q g  _ _ _  _
def t_X6_royalty (E : zE) (p1 : Int32) (p2 : Int64) (s : twS) : Option (Int64 × twS) :=
  t_X6_royalty_b0 E p1 p2 s
theorem ts_X6_royalty (E : zE) (q : Nat) (g : zH) (p1 : Int32) (p2 : Int64) (s : twS) : f_X6_royalty E q p1 p2 (tw s q g) = (t_X6_royalty E p1 p2 s).map (zem q g) := by
  unfold f_X6_royalty t_X6_royalty
  exact ts_X6_royalty_b0 E q g  _ _  _
def t_X6_planNow_b0 (E : zE) (p1 : Int32) (s : twS) : Option (Int32 × twS) :=
  bnd2 (t_X6_of E p1 (1 : Int32) s) fun x4 s2_ =>
  some ((x4.toInt32), s2_)
theorem ts_X6_planNow_b0 (E : zE) (q : Nat) (g : zH) (p1 : Int32) (s : twS) : f_X6_planNow_b0 E q p1 (tw s q g) = (t_X6_planNow_b0 E p1 s).map (zem q g) := by
  unfold f_X6_planNow_b0 t_X6_planNow_b0
  refine tb1 (tw_cko _ q g) ?_
  refine tb5 (ts_X6_of E q g  _ _  _) fun x4 s2_ => ?_
  rfl
def t_X6_planNow (E : zE) (p1 : Int32) (s : twS) : Option (Int32 × twS) :=
  t_X6_planNow_b0 E p1 s
theorem ts_X6_planNow (E : zE) (q : Nat) (g : zH) (p1 : Int32) (s : twS) : f_X6_planNow E q p1 (tw s q g) = (t_X6_planNow E p1 s).map (zem q g) := by
  unfold f_X6_planNow t_X6_planNow
  exact ts_X6_planNow_b0 E q g  _  _
def t_X6_planOf_b35 (E : zE) (s0 : Int32) (s : twS) : Option (Int32 × twS) :=
  some (s0, s)
theorem ts_X6_planOf_b35 (E : zE) (q : Nat) (g : zH) (s0 : Int32) (s : twS) : f_X6_planOf_b35 E s0 (tw s q g) = (t_X6_planOf_b35 E s0 s).map (zem q g) := by
  unfold f_X6_planOf_b35 t_X6_planOf_b35
  rfl
def t_X6_planOf_b19 (E : zE) (p1 : Int32) (s1 : Int32) (s : twS) : Option (Int32 × twS) :=
  bnd2 (t_X6_throwsIf E s1 (1 : Int32) s) fun x4 s2_ =>
  if x4 = 0 then (
    bnd2 (t_X6_planNow E p1 s2_) fun x9 s7_ =>
    t_X6_planOf_b35 E x9 s7_
  ) else (
    t_X6_planOf_b35 E (0 : Int32) s2_
  )
theorem ts_X6_planOf_b19 (E : zE) (q : Nat) (g : zH) (p1 : Int32) (s1 : Int32) (s : twS) : f_X6_planOf_b19 E q p1 q s1 (tw s q g) = (t_X6_planOf_b19 E p1 s1 s).map (zem q g) := by
  unfold f_X6_planOf_b19 t_X6_planOf_b19
  refine tb1 (tw_cko _ q g) ?_
  refine tb5 (ts_X6_throwsIf E q g  _ _  _) fun x4 s2_ => ?_
  refine tb6 ?_ ?_
  · refine tb1 (tw_cko _ q g) ?_
    refine tb5 (ts_X6_planNow E q g  _  _) fun x9 s7_ => ?_
    exact ts_X6_planOf_b35 E q g  _  _
  · exact ts_X6_planOf_b35 E q g  _  _
def t_X6_planOf_b0 (E : zE) (p1 : Int32) (s : twS) : Option (Int32 × twS) :=
  bnd2 (t_X6_isFranchisee E p1 (uSc s 2 (0 : Int32))) fun x6 s4_ =>
  if x6 = 0 then (
    t_X6_planOf_b19 E p1 (1 : Int32) s4_
  ) else (
    t_X6_planOf_b19 E p1 (0 : Int32) s4_
  )
theorem ts_X6_planOf_b0 (E : zE) (q : Nat) (g : zH) (p1 : Int32) (s : twS) : f_X6_planOf_b0 E q p1 (tw s q g) = (t_X6_planOf_b0 E p1 s).map (zem q g) := by
  unfold f_X6_planOf_b0 t_X6_planOf_b0
  refine tb1 (tw_pI_2 _ q g _) ?_
  refine tb1 (tw_cko _ q g) ?_
  refine tb5 (ts_X6_isFranchisee E q g  _  _) fun x6 s4_ => ?_
  refine tb6 ?_ ?_
  · exact ts_X6_planOf_b19 E q g  _ _  _
  · exact ts_X6_planOf_b19 E q g  _ _  _
def t_X6_planOf (E : zE) (p1 : Int32) (s : twS) : Option (Int32 × twS) :=
  t_X6_planOf_b0 E p1 s
theorem ts_X6_planOf (E : zE) (q : Nat) (g : zH) (p1 : Int32) (s : twS) : f_X6_planOf E q p1 (tw s q g) = (t_X6_planOf E p1 s).map (zem q g) := by
  unfold f_X6_planOf t_X6_planOf
  exact ts_X6_planOf_b0 E q g  _  _
def t_X6_set_b0 (E : zE) (p1 : Int32) (p2 : Int32) (p3 : Int64) (s : twS) : Option (Unit × twS) :=
  (tsL s 1 (((58 : Int32) + ((16 : Int32) * p1)) + p2) p3).bind fun s3_ =>
  some ((), s3_)
theorem ts_X6_set_b0 (E : zE) (q : Nat) (g : zH) (p1 : Int32) (p2 : Int32) (p3 : Int64) (s : twS) : f_X6_set_b0 E q p1 p2 p3 (tw s q g) = (t_X6_set_b0 E p1 p2 p3 s).map (zem q g) := by
  unfold f_X6_set_b0 t_X6_set_b0
  refine tb1 (tw_gR_0 _ q g) ?_
  refine tb4 (tw_sL _ q g (by decide) _ _ ) fun s3_ => ?_
  rfl
def t_X6_set (E : zE) (p1 : Int32) (p2 : Int32) (p3 : Int64) (s : twS) : Option (Unit × twS) :=
  t_X6_set_b0 E p1 p2 p3 s
theorem ts_X6_set (E : zE) (q : Nat) (g : zH) (p1 : Int32) (p2 : Int32) (p3 : Int64) (s : twS) : f_X6_set E q p1 p2 p3 (tw s q g) = (t_X6_set E p1 p2 p3 s).map (zem q g) := by
  unfold f_X6_set t_X6_set
  exact ts_X6_set_b0 E q g  _ _ _  _
def t_X6_setPlan_b27 (E : zE) (p1 : Int32) (p2 : Int32) (s1 : Int32) (s : twS) : Option (Int32 × twS) :=
  bnd2 (t_X6_throwsIf E s1 (1 : Int32) s) fun x4 s2_ =>
  if x4 = 0 then (
    bnd2 (t_X6_planNow E p1 s2_) fun x9 s7_ =>
    bnd2 (t_X6_set E p1 (1 : Int32) (p2.toInt64) s7_) fun x13 s11_ =>
    some (x9, s11_)
  ) else (
    some ((0 : Int32), s2_)
  )
theorem ts_X6_setPlan_b27 (E : zE) (q : Nat) (g : zH) (p1 : Int32) (p2 : Int32) (s1 : Int32) (s : twS) : f_X6_setPlan_b27 E q p1 p2 q s1 (tw s q g) = (t_X6_setPlan_b27 E p1 p2 s1 s).map (zem q g) := by
  unfold f_X6_setPlan_b27 t_X6_setPlan_b27
  refine tb1 (tw_cko _ q g) ?_
  refine tb5 (ts_X6_throwsIf E q g  _ _  _) fun x4 s2_ => ?_
  refine tb6 ?_ ?_
  · refine tb1 (tw_cko _ q g) ?_
    refine tb5 (ts_X6_planNow E q g  _  _) fun x9 s7_ => ?_
    refine tb1 (tw_cko _ q g) ?_
    refine tb5 (ts_X6_set E q g  _ _ _  _) fun x13 s11_ => ?_
    rfl
  · rfl
def t_X6_setPlan_b22 (E : zE) (p1 : Int32) (p2 : Int32) (s : twS) : Option (Int32 × twS) :=
  t_X6_setPlan_b27 E p1 p2 (1 : Int32) s
theorem ts_X6_setPlan_b22 (E : zE) (q : Nat) (g : zH) (p1 : Int32) (p2 : Int32) (s : twS) : f_X6_setPlan_b22 E q p1 p2 q (tw s q g) = (t_X6_setPlan_b22 E p1 p2 s).map (zem q g) := by
  unfold f_X6_setPlan_b22 t_X6_setPlan_b22
  exact ts_X6_setPlan_b27 E q g  _ _ _  _
def t_X6_setPlan_b0 (E : zE) (p1 : Int32) (p2 : Int32) (s : twS) : Option (Int32 × twS) :=
  bnd2 (t_X6_isFranchisee E p1 (uSc s 2 (0 : Int32))) fun x6 s4_ =>
  if x6 = 0 then (
    t_X6_setPlan_b22 E p1 p2 s4_
  ) else (
    bnd2 (t_X6_isPlan E p2 s4_) fun x11 s9_ =>
    if x11 = 0 then (
      t_X6_setPlan_b22 E p1 p2 s9_
    ) else (
      t_X6_setPlan_b27 E p1 p2 (0 : Int32) s9_
    )
  )
theorem ts_X6_setPlan_b0 (E : zE) (q : Nat) (g : zH) (p1 : Int32) (p2 : Int32) (s : twS) : f_X6_setPlan_b0 E q p1 p2 (tw s q g) = (t_X6_setPlan_b0 E p1 p2 s).map (zem q g) := by
  unfold f_X6_setPlan_b0 t_X6_setPlan_b0
  refine tb1 (tw_pI_2 _ q g _) ?_
  refine tb1 (tw_cko _ q g) ?_
  refine tb5 (ts_X6_isFranchisee E q g  _  _) fun x6 s4_ => ?_
  refine tb6 ?_ ?_
  · exact ts_X6_setPlan_b22 E q g  _ _  _
  · refine tb1 (tw_cko _ q g) ?_
    refine tb5 (ts_X6_isPlan E q g  _  _) fun x11 s9_ => ?_
    refine tb6 ?_ ?_
    · exact ts_X6_setPlan_b22 E q g  _ _  _
    · exact ts_X6_setPlan_b27 E q g  _ _ _  _
def t_X6_setPlan (E : zE) (p1 : Int32) (p2 : Int32) (s : twS) : Option (Int32 × twS) :=
  t_X6_setPlan_b0 E p1 p2 s
theorem ts_X6_setPlan (E : zE) (q : Nat) (g : zH) (p1 : Int32) (p2 : Int32) (s : twS) : f_X6_setPlan E q p1 p2 (tw s q g) = (t_X6_setPlan E p1 p2 s).map (zem q g) := by
  unfold f_X6_setPlan t_X6_setPlan
  exact ts_X6_setPlan_b0 E q g  _ _  _
def t_X6_salesNow_b48 (E : zE) (k5 : Int32 → Int32 → Int64 → Int32 → twS → Option (Int64 × twS)) (p1 : Int32) (p2 : Int32) (p3 : Int64) (p5 : Int32) (s : twS) : Option (Int64 × twS) :=
  k5 p1 p2 p3 (p5 + 1) s
theorem ts_X6_salesNow_b48 (E : zE) (q : Nat) (g : zH) {K5 : Nat → Int32 → Int32 → Int64 → Int32 → zH → Option (Int64 × zH)} {k5 : Int32 → Int32 → Int64 → Int32 → twS → Option (Int64 × twS)} (hk5 : ∀ (p1 : Int32) (p2 : Int32) (p3 : Int64) (p5 : Int32) (s : twS), K5 q p1 p2 p3 p5 (tw s q g) = (k5 p1 p2 p3 p5 s).map (zem q g)) (p1 : Int32) (p2 : Int32) (p3 : Int64) (p5 : Int32) (s : twS) : f_X6_salesNow_b48 E K5 q p1 p2 p3 p5 (tw s q g) = (t_X6_salesNow_b48 E k5 p1 p2 p3 p5 s).map (zem q g) := by
  unfold f_X6_salesNow_b48 t_X6_salesNow_b48
  exact hk5 _ _ _ _  _
def t_X6_salesNow_l5 (E : zE) : Nat → Int32 → Int32 → Int64 → Int32 → twS → Option (Int64 × twS)
  | 0, _, _, _, _, _ => none
  | n + 1, p1, p2, p3, p5, s =>
    (tdL s 1 (3 : Int32)).bind fun x3 =>
    if x3 ≤ (p5.toInt64) then (
      some (p3, s)
    ) else (
      bnd2 (t_X6_ofOutlet E p5 (0 : Int32) s) fun x9 s7_ =>
      if x9 = (p1.toInt64) then (
        bnd2 (t_X6_ofOutlet E p5 (3 : Int32) s7_) fun x14 s12_ =>
        t_X6_salesNow_b48 E (t_X6_salesNow_l5 E n) p1 p2 (p3 + ((x14 * (p2.toInt64)) / (100 : Int64))) p5 s12_
      ) else (
        t_X6_salesNow_b48 E (t_X6_salesNow_l5 E n) p1 p2 p3 p5 s7_
      )
    )
theorem ts_X6_salesNow_l5 (E : zE) (q : Nat) (g : zH) : ∀ (n : Nat) (p1 : Int32) (p2 : Int32) (p3 : Int64) (p5 : Int32) (s : twS), f_X6_salesNow_l5 E n q p1 p2 p3 p5 (tw s q g) = (t_X6_salesNow_l5 E n p1 p2 p3 p5 s).map (zem q g) := by
  intro n
  induction n with
  | zero => intros; rfl
  | succ n ih =>
    intro p1 p2 p3 p5 s
    unfold f_X6_salesNow_l5 t_X6_salesNow_l5
    refine tb1 (tw_gR_0 _ q g) ?_
    refine tb2 (tw_dL _ q g (by decide) _ ) fun x3 => ?_
    refine tb6 ?_ ?_
    · rfl
    · refine tb1 (tw_cko _ q g) ?_
      refine tb5 (ts_X6_ofOutlet E q g  _ _  _) fun x9 s7_ => ?_
      refine tb6 ?_ ?_
      · refine tb1 (tw_cko _ q g) ?_
        refine tb5 (ts_X6_ofOutlet E q g  _ _  _) fun x14 s12_ => ?_
        exact ts_X6_salesNow_b48 E q g ih  _ _ _ _  _
      · exact ts_X6_salesNow_b48 E q g ih  _ _ _ _  _
def t_X6_salesNow_b0 (E : zE) (p1 : Int32) (p2 : Int32) (s : twS) : Option (Int64 × twS) :=
  t_X6_salesNow_l5 E E.1 p1 p2 (0 : Int64) (0 : Int32) s
theorem ts_X6_salesNow_b0 (E : zE) (q : Nat) (g : zH) (p1 : Int32) (p2 : Int32) (s : twS) : f_X6_salesNow_b0 E q p1 p2 (tw s q g) = (t_X6_salesNow_b0 E p1 p2 s).map (zem q g) := by
  unfold f_X6_salesNow_b0 t_X6_salesNow_b0
  exact ts_X6_salesNow_l5 E q g E.1 _ _ _ _  _
def t_X6_salesNow (E : zE) (p1 : Int32) (p2 : Int32) (s : twS) : Option (Int64 × twS) :=
  t_X6_salesNow_b0 E p1 p2 s
theorem ts_X6_salesNow (E : zE) (q : Nat) (g : zH) (p1 : Int32) (p2 : Int32) (s : twS) : f_X6_salesNow E q p1 p2 (tw s q g) = (t_X6_salesNow E p1 p2 s).map (zem q g) := by
  unfold f_X6_salesNow t_X6_salesNow
  exact ts_X6_salesNow_b0 E q g  _ _  _
def t_X6_rated_b0 (E : zE) (p0 : Int64) (p2 : Int64) (s : twS) : Option (Int64 × twS) :=
  bnd2 (t_X6_half E (p0 * p2) s) fun x3 s1_ =>
  some (x3, s1_)
theorem ts_X6_rated_b0 (E : zE) (q : Nat) (g : zH) (p0 : Int64) (p2 : Int64) (s : twS) : f_X6_rated_b0 E p0 p2 (tw s q g) = (t_X6_rated_b0 E p0 p2 s).map (zem q g) := by
  unfold f_X6_rated_b0 t_X6_rated_b0
  refine tb5 (ts_X6_half E q g  _  _) fun x3 s1_ => ?_
  rfl
def t_X6_rated (E : zE) (p0 : Int64) (p2 : Int64) (s : twS) : Option (Int64 × twS) :=
  t_X6_rated_b0 E p0 p2 s
theorem ts_X6_rated (E : zE) (q : Nat) (g : zH) (p0 : Int64) (p2 : Int64) (s : twS) : f_X6_rated E p0 p2 (tw s q g) = (t_X6_rated E p0 p2 s).map (zem q g) := by
  unfold f_X6_rated t_X6_rated
  exact ts_X6_rated_b0 E q g  _ _  _
def t_X6_feesBy_b0 (E : zE) (p1 : Int32) (p2 : Int64) (s : twS) : Option (Int64 × twS) :=
  bnd2 (t_X6_royaltyOf E p1 p2 s) fun x4 s2_ =>
  bnd2 (t_X6_ofPlan E p1 (0 : Int32) s2_) fun x8 s6_ =>
  bnd2 (t_X6_rated E p2 x8 s6_) fun x11 s9_ =>
  some ((x4 + x11), s9_)
theorem ts_X6_feesBy_b0 (E : zE) (q : Nat) (g : zH) (p1 : Int32) (p2 : Int64) (s : twS) : f_X6_feesBy_b0 E q p1 p2 (tw s q g) = (t_X6_feesBy_b0 E p1 p2 s).map (zem q g) := by
  unfold f_X6_feesBy_b0 t_X6_feesBy_b0
  refine tb1 (tw_cko _ q g) ?_
  refine tb5 (ts_X6_royaltyOf E q g  _ _  _) fun x4 s2_ => ?_
  refine tb1 (tw_cko _ q g) ?_
  refine tb5 (ts_X6_ofPlan E q g  _ _  _) fun x8 s6_ => ?_
  refine tb5 (ts_X6_rated E q g  _ _  _) fun x11 s9_ => ?_
  rfl
def t_X6_feesBy (E : zE) (p1 : Int32) (p2 : Int64) (s : twS) : Option (Int64 × twS) :=
  t_X6_feesBy_b0 E p1 p2 s
theorem ts_X6_feesBy (E : zE) (q : Nat) (g : zH) (p1 : Int32) (p2 : Int64) (s : twS) : f_X6_feesBy E q p1 p2 (tw s q g) = (t_X6_feesBy E p1 p2 s).map (zem q g) := by
  unfold f_X6_feesBy t_X6_feesBy
  exact ts_X6_feesBy_b0 E q g  _ _  _
def t_X6_cheapestPlan_b77 (E : zE) (k42 : Int64 → Int32 → Int32 → twS → Option (Int32 × twS)) (p2 : Int64) (p4 : Int32) (p5 : Int32) (s : twS) : Option (Int32 × twS) :=
  k42 p2 p4 (p5 + 1) s
theorem ts_X6_cheapestPlan_b77 (E : zE) (q : Nat) (g : zH) {K42 : Nat → Int64 → Int32 → Int32 → zH → Option (Int32 × zH)} {k42 : Int64 → Int32 → Int32 → twS → Option (Int32 × twS)} (hk42 : ∀ (p2 : Int64) (p4 : Int32) (p5 : Int32) (s : twS), K42 q p2 p4 p5 (tw s q g) = (k42 p2 p4 p5 s).map (zem q g)) (p2 : Int64) (p4 : Int32) (p5 : Int32) (s : twS) : f_X6_cheapestPlan_b77 E K42 q p2 p4 p5 (tw s q g) = (t_X6_cheapestPlan_b77 E k42 p2 p4 p5 s).map (zem q g) := by
  unfold f_X6_cheapestPlan_b77 t_X6_cheapestPlan_b77
  exact hk42 _ _ _  _
def t_X6_cheapestPlan_l42 (E : zE) : Nat → Int64 → Int32 → Int32 → twS → Option (Int32 × twS)
  | 0, _, _, _, _ => none
  | n + 1, p2, p4, p5, s =>
    (tdL s 1 (1 : Int32)).bind fun x3 =>
    if x3 ≤ (p5.toInt64) then (
      some (p4, s)
    ) else (
      bnd2 (t_X6_feesBy E p5 p2 s) fun x9 s7_ =>
      bnd2 (t_X6_feesBy E p4 p2 s7_) fun x13 s11_ =>
      if x13 ≤ x9 then (
        t_X6_cheapestPlan_b77 E (t_X6_cheapestPlan_l42 E n) p2 p4 p5 s11_
      ) else (
        t_X6_cheapestPlan_b77 E (t_X6_cheapestPlan_l42 E n) p2 p5 p5 s11_
      )
    )
theorem ts_X6_cheapestPlan_l42 (E : zE) (q : Nat) (g : zH) : ∀ (n : Nat) (p2 : Int64) (p4 : Int32) (p5 : Int32) (s : twS), f_X6_cheapestPlan_l42 E n q p2 p4 p5 (tw s q g) = (t_X6_cheapestPlan_l42 E n p2 p4 p5 s).map (zem q g) := by
  intro n
  induction n with
  | zero => intros; rfl
  | succ n ih =>
    intro p2 p4 p5 s
    unfold f_X6_cheapestPlan_l42 t_X6_cheapestPlan_l42
    refine tb1 (tw_gR_0 _ q g) ?_
    refine tb2 (tw_dL _ q g (by decide) _ ) fun x3 => ?_
    refine tb6 ?_ ?_
    · rfl
    · refine tb1 (tw_cko _ q g) ?_
      refine tb5 (ts_X6_feesBy E q g  _ _  _) fun x9 s7_ => ?_
      refine tb1 (tw_cko _ q g) ?_
      refine tb5 (ts_X6_feesBy E q g  _ _  _) fun x13 s11_ => ?_
      refine tb6 ?_ ?_
      · exact ts_X6_cheapestPlan_b77 E q g ih  _ _ _  _
      · exact ts_X6_cheapestPlan_b77 E q g ih  _ _ _  _
def t_X6_cheapestPlan_b19 (E : zE) (p1 : Int32) (s1 : Int32) (s : twS) : Option (Int32 × twS) :=
  bnd2 (t_X6_throwsIf E s1 (1 : Int32) s) fun x4 s2_ =>
  if x4 = 0 then (
    bnd2 (t_X6_salesNow E p1 (100 : Int32) s2_) fun x9 s7_ =>
    t_X6_cheapestPlan_l42 E E.1 x9 (0 : Int32) (1 : Int32) s7_
  ) else (
    some ((0 : Int32), s2_)
  )
theorem ts_X6_cheapestPlan_b19 (E : zE) (q : Nat) (g : zH) (p1 : Int32) (s1 : Int32) (s : twS) : f_X6_cheapestPlan_b19 E q p1 q s1 (tw s q g) = (t_X6_cheapestPlan_b19 E p1 s1 s).map (zem q g) := by
  unfold f_X6_cheapestPlan_b19 t_X6_cheapestPlan_b19
  refine tb1 (tw_cko _ q g) ?_
  refine tb5 (ts_X6_throwsIf E q g  _ _  _) fun x4 s2_ => ?_
  refine tb6 ?_ ?_
  · refine tb1 (tw_cko _ q g) ?_
    refine tb5 (ts_X6_salesNow E q g  _ _  _) fun x9 s7_ => ?_
    exact ts_X6_cheapestPlan_l42 E q g E.1 _ _ _  _
  · rfl
def t_X6_cheapestPlan_b0 (E : zE) (p1 : Int32) (s : twS) : Option (Int32 × twS) :=
  bnd2 (t_X6_isFranchisee E p1 (uSc s 2 (0 : Int32))) fun x6 s4_ =>
  if x6 = 0 then (
    t_X6_cheapestPlan_b19 E p1 (1 : Int32) s4_
  ) else (
    t_X6_cheapestPlan_b19 E p1 (0 : Int32) s4_
  )
theorem ts_X6_cheapestPlan_b0 (E : zE) (q : Nat) (g : zH) (p1 : Int32) (s : twS) : f_X6_cheapestPlan_b0 E q p1 (tw s q g) = (t_X6_cheapestPlan_b0 E p1 s).map (zem q g) := by
  unfold f_X6_cheapestPlan_b0 t_X6_cheapestPlan_b0
  refine tb1 (tw_pI_2 _ q g _) ?_
  refine tb1 (tw_cko _ q g) ?_
  refine tb5 (ts_X6_isFranchisee E q g  _  _) fun x6 s4_ => ?_
  refine tb6 ?_ ?_
  · exact ts_X6_cheapestPlan_b19 E q g  _ _  _
  · exact ts_X6_cheapestPlan_b19 E q g  _ _  _
def t_X6_cheapestPlan (E : zE) (p1 : Int32) (s : twS) : Option (Int32 × twS) :=
  t_X6_cheapestPlan_b0 E p1 s
theorem ts_X6_cheapestPlan (E : zE) (q : Nat) (g : zH) (p1 : Int32) (s : twS) : f_X6_cheapestPlan E q p1 (tw s q g) = (t_X6_cheapestPlan E p1 s).map (zem q g) := by
  unfold f_X6_cheapestPlan t_X6_cheapestPlan
  exact ts_X6_cheapestPlan_b0 E q g  _  _
def t_X6_isOver_b18 (E : zE) (s0 : Int32) (s : twS) : Option (Int32 × twS) :=
  (zgd .boolean s0).bind fun _ =>
  some (s0, s)
theorem ts_X6_isOver_b18 (E : zE) (q : Nat) (g : zH) (s0 : Int32) (s : twS) : f_X6_isOver_b18 E s0 (tw s q g) = (t_X6_isOver_b18 E s0 s).map (zem q g) := by
  unfold f_X6_isOver_b18 t_X6_isOver_b18
  refine tb2 rfl fun _ => ?_
  rfl
def t_X6_isOver_b0 (E : zE) (s : twS) : Option (Int32 × twS) :=
  (tdL s 1 (0 : Int32)).bind fun x3 =>
  if x3 = (60 : Int64) then (
    t_X6_isOver_b18 E (1 : Int32) s
  ) else (
    t_X6_isOver_b18 E (0 : Int32) s
  )
theorem ts_X6_isOver_b0 (E : zE) (q : Nat) (g : zH) (s : twS) : f_X6_isOver_b0 E q (tw s q g) = (t_X6_isOver_b0 E  s).map (zem q g) := by
  unfold f_X6_isOver_b0 t_X6_isOver_b0
  refine tb1 (tw_gR_0 _ q g) ?_
  refine tb2 (tw_dL _ q g (by decide) _ ) fun x3 => ?_
  refine tb6 ?_ ?_
  · exact ts_X6_isOver_b18 E q g  _  _
  · exact ts_X6_isOver_b18 E q g  _  _
def t_X6_isOver (E : zE) (s : twS) : Option (Int32 × twS) :=
  t_X6_isOver_b0 E s
theorem ts_X6_isOver (E : zE) (q : Nat) (g : zH) (s : twS) : f_X6_isOver E q (tw s q g) = (t_X6_isOver E  s).map (zem q g) := by
  unfold f_X6_isOver t_X6_isOver
  exact ts_X6_isOver_b0 E q g   _
def t_X6_reportSales_b62 (E : zE) (s : twS) : Option (Int64 × twS) :=
  some ((0 : Int64), s)
theorem ts_X6_reportSales_b62 (E : zE) (q : Nat) (g : zH) (s : twS) : f_X6_reportSales_b62 E  (tw s q g) = (t_X6_reportSales_b62 E  s).map (zem q g) := by
  unfold f_X6_reportSales_b62 t_X6_reportSales_b62
  rfl
def t_X6_reportSales_b43 (E : zE) (p1 : Int32) (p2 : Int64) (s1 : Int32) (s : twS) : Option (Int64 × twS) :=
  bnd2 (t_X6_throwsIf E s1 (2 : Int32) s) fun x4 s2_ =>
  if x4 = 0 then (
    bnd2 (t_X6_isOver E s2_) fun x9 s7_ =>
    bnd2 (t_X6_throwsIf E x9 (3 : Int32) s7_) fun x13 s11_ =>
    if x13 = 0 then (
      bnd2 (t_X6_isOpen E p1 s11_) fun x18 s16_ =>
      if x18 = 0 then (
        some ((-1 : Int64), s16_)
      ) else (
        bnd2 (t_X6_ofOutlet E p1 (3 : Int32) s16_) fun x23 s21_ =>
        (tsL s21_ 1 (((186 : Int32) + ((4 : Int32) * p1)) + (3 : Int32)) p2).bind fun s26_ =>
        some (x23, s26_)
      )
    ) else (
      t_X6_reportSales_b62 E s11_
    )
  ) else (
    t_X6_reportSales_b62 E s2_
  )
theorem ts_X6_reportSales_b43 (E : zE) (q : Nat) (g : zH) (p1 : Int32) (p2 : Int64) (s1 : Int32) (s : twS) : f_X6_reportSales_b43 E q p1 p2 q s1 (tw s q g) = (t_X6_reportSales_b43 E p1 p2 s1 s).map (zem q g) := by
  unfold f_X6_reportSales_b43 t_X6_reportSales_b43
  refine tb1 (tw_cko _ q g) ?_
  refine tb5 (ts_X6_throwsIf E q g  _ _  _) fun x4 s2_ => ?_
  refine tb6 ?_ ?_
  · refine tb1 (tw_cko _ q g) ?_
    refine tb5 (ts_X6_isOver E q g   _) fun x9 s7_ => ?_
    refine tb1 (tw_cko _ q g) ?_
    refine tb5 (ts_X6_throwsIf E q g  _ _  _) fun x13 s11_ => ?_
    refine tb6 ?_ ?_
    · refine tb1 (tw_cko _ q g) ?_
      refine tb5 (ts_X6_isOpen E q g  _  _) fun x18 s16_ => ?_
      refine tb6 ?_ ?_
      · rfl
      · refine tb1 (tw_cko _ q g) ?_
        refine tb5 (ts_X6_ofOutlet E q g  _ _  _) fun x23 s21_ => ?_
        refine tb1 (tw_gR_0 _ q g) ?_
        refine tb4 (tw_sL _ q g (by decide) _ _ ) fun s26_ => ?_
        rfl
    · exact ts_X6_reportSales_b62 E q g   _
  · exact ts_X6_reportSales_b62 E q g   _
def t_X6_reportSales_b19 (E : zE) (p1 : Int32) (p2 : Int64) (s1 : Int32) (s : twS) : Option (Int64 × twS) :=
  bnd2 (t_X6_throwsIf E s1 (1 : Int32) s) fun x4 s2_ =>
  if x4 = 0 then (
    bnd2 (t_X6_inRange E p2 (0 : Int64) (10000000 : Int64) s2_) fun x8 s6_ =>
    if x8 = 0 then (
      t_X6_reportSales_b43 E p1 p2 (1 : Int32) s6_
    ) else (
      t_X6_reportSales_b43 E p1 p2 (0 : Int32) s6_
    )
  ) else (
    t_X6_reportSales_b62 E s2_
  )
theorem ts_X6_reportSales_b19 (E : zE) (q : Nat) (g : zH) (p1 : Int32) (p2 : Int64) (s1 : Int32) (s : twS) : f_X6_reportSales_b19 E q p1 p2 q s1 (tw s q g) = (t_X6_reportSales_b19 E p1 p2 s1 s).map (zem q g) := by
  unfold f_X6_reportSales_b19 t_X6_reportSales_b19
  refine tb1 (tw_cko _ q g) ?_
  refine tb5 (ts_X6_throwsIf E q g  _ _  _) fun x4 s2_ => ?_
  refine tb6 ?_ ?_
  · refine tb5 (ts_X6_inRange E q g  _ _ _  _) fun x8 s6_ => ?_
    refine tb6 ?_ ?_
    · exact ts_X6_reportSales_b43 E q g  _ _ _  _
    · exact ts_X6_reportSales_b43 E q g  _ _ _  _
  · exact ts_X6_reportSales_b62 E q g   _
def t_X6_reportSales_b0 (E : zE) (p1 : Int32) (p2 : Int64) (s : twS) : Option (Int64 × twS) :=
  bnd2 (t_X6_isOutlet E p1 (uSc s 2 (0 : Int32))) fun x6 s4_ =>
  if x6 = 0 then (
    t_X6_reportSales_b19 E p1 p2 (1 : Int32) s4_
  ) else (
    t_X6_reportSales_b19 E p1 p2 (0 : Int32) s4_
  )
theorem ts_X6_reportSales_b0 (E : zE) (q : Nat) (g : zH) (p1 : Int32) (p2 : Int64) (s : twS) : f_X6_reportSales_b0 E q p1 p2 (tw s q g) = (t_X6_reportSales_b0 E p1 p2 s).map (zem q g) := by
  unfold f_X6_reportSales_b0 t_X6_reportSales_b0
  refine tb1 (tw_pI_2 _ q g _) ?_
  refine tb1 (tw_cko _ q g) ?_
  refine tb5 (ts_X6_isOutlet E q g  _  _) fun x6 s4_ => ?_
  refine tb6 ?_ ?_
  · exact ts_X6_reportSales_b19 E q g  _ _ _  _
  · exact ts_X6_reportSales_b19 E q g  _ _ _  _
def t_X6_reportSales (E : zE) (p1 : Int32) (p2 : Int64) (s : twS) : Option (Int64 × twS) :=
  t_X6_reportSales_b0 E p1 p2 s
theorem ts_X6_reportSales (E : zE) (q : Nat) (g : zH) (p1 : Int32) (p2 : Int64) (s : twS) : f_X6_reportSales E q p1 p2 (tw s q g) = (t_X6_reportSales E p1 p2 s).map (zem q g) := by
  unfold f_X6_reportSales t_X6_reportSales
  exact ts_X6_reportSales_b0 E q g  _ _  _
def t_X6_deliver_b71 (E : zE) (s : twS) : Option (Int64 × twS) :=
  some ((0 : Int64), s)
theorem ts_X6_deliver_b71 (E : zE) (q : Nat) (g : zH) (s : twS) : f_X6_deliver_b71 E  (tw s q g) = (t_X6_deliver_b71 E  s).map (zem q g) := by
  unfold f_X6_deliver_b71 t_X6_deliver_b71
  rfl
def t_X6_deliver_b194 (E : zE) (p1 : Int32) (s : twS) : Option (Int64 × twS) :=
  bnd2 (t_X6_ofOutlet E p1 (3 : Int32) s) fun x4 s2_ =>
  some (x4, s2_)
theorem ts_X6_deliver_b194 (E : zE) (q : Nat) (g : zH) (p1 : Int32) (s : twS) : f_X6_deliver_b194 E q p1 (tw s q g) = (t_X6_deliver_b194 E p1 s).map (zem q g) := by
  unfold f_X6_deliver_b194 t_X6_deliver_b194
  refine tb1 (tw_cko _ q g) ?_
  refine tb5 (ts_X6_ofOutlet E q g  _ _  _) fun x4 s2_ => ?_
  rfl
def t_X6_deliver_b52 (E : zE) (p1 : Int32) (p2 : Int32) (p3 : Int32) (p4 : Int64) (s1 : Int32) (s : twS) : Option (Int64 × twS) :=
  bnd2 (t_X6_throwsIf E s1 (2 : Int32) s) fun x4 s2_ =>
  if x4 = 0 then (
    bnd2 (t_X6_isOver E s2_) fun x9 s7_ =>
    bnd2 (t_X6_throwsIf E x9 (3 : Int32) s7_) fun x13 s11_ =>
    if x13 = 0 then (
      bnd2 (t_X6_isOpen E p1 s11_) fun x18 s16_ =>
      if x18 = 0 then (
        some ((-1 : Int64), s16_)
      ) else (
        bnd2 (t_X6_ofOutlet E p1 (3 : Int32) s16_) fun x23 s21_ =>
        if (x23 + p4) ≤ (10000000 : Int64) then (
          (tdL s21_ 1 (((186 : Int32) + ((4 : Int32) * p1)) + (3 : Int32))).bind fun x27 =>
          (tsL s21_ 1 (((186 : Int32) + ((4 : Int32) * p1)) + (3 : Int32)) (x27 + p4)).bind fun s29_ =>
          bnd2 (t_X6_ofOutlet E p1 (0 : Int32) s29_) fun x34 s32_ =>
          bnd2 (t_X6_ownerOf E p2 p3 s32_) fun x38 s36_ =>
          if x38 = (-1 : Int32) then (
            t_X6_deliver_b194 E p1 s36_
          ) else (
            if x38 = (x34.toInt32) then (
              t_X6_deliver_b194 E p1 s36_
            ) else (
              bnd2 (t_X6_isActive E (x34.toInt32) s36_) fun x44 s42_ =>
              if x44 = 0 then (
                t_X6_deliver_b194 E p1 s42_
              ) else (
                bnd2 (t_X6_isActive E x38 s42_) fun x49 s47_ =>
                if x49 = 0 then (
                  t_X6_deliver_b194 E p1 s47_
                ) else (
                  (tdL s47_ 1 (((1150 : Int32) + ((8 : Int32) * (x34.toInt32))) + x38)).bind fun x53 =>
                  (tsL s47_ 1 (((1150 : Int32) + ((8 : Int32) * (x34.toInt32))) + x38) (x53 + p4)).bind fun s55_ =>
                  t_X6_deliver_b194 E p1 s55_
                )
              )
            )
          )
        ) else (
          some ((-3 : Int64), s21_)
        )
      )
    ) else (
      t_X6_deliver_b71 E s11_
    )
  ) else (
    t_X6_deliver_b71 E s2_
  )
theorem ts_X6_deliver_b52 (E : zE) (q : Nat) (g : zH) (p1 : Int32) (p2 : Int32) (p3 : Int32) (p4 : Int64) (s1 : Int32) (s : twS) : f_X6_deliver_b52 E q p1 p2 p3 p4 q s1 (tw s q g) = (t_X6_deliver_b52 E p1 p2 p3 p4 s1 s).map (zem q g) := by
  unfold f_X6_deliver_b52 t_X6_deliver_b52
  refine tb1 (tw_cko _ q g) ?_
  refine tb5 (ts_X6_throwsIf E q g  _ _  _) fun x4 s2_ => ?_
  refine tb6 ?_ ?_
  · refine tb1 (tw_cko _ q g) ?_
    refine tb5 (ts_X6_isOver E q g   _) fun x9 s7_ => ?_
    refine tb1 (tw_cko _ q g) ?_
    refine tb5 (ts_X6_throwsIf E q g  _ _  _) fun x13 s11_ => ?_
    refine tb6 ?_ ?_
    · refine tb1 (tw_cko _ q g) ?_
      refine tb5 (ts_X6_isOpen E q g  _  _) fun x18 s16_ => ?_
      refine tb6 ?_ ?_
      · rfl
      · refine tb1 (tw_cko _ q g) ?_
        refine tb5 (ts_X6_ofOutlet E q g  _ _  _) fun x23 s21_ => ?_
        refine tb6 ?_ ?_
        · refine tb1 (tw_gR_0 _ q g) ?_
          refine tb2 (tw_dL _ q g (by decide) _ ) fun x27 => ?_
          refine tb4 (tw_sL _ q g (by decide) _ _ ) fun s29_ => ?_
          refine tb1 (tw_cko _ q g) ?_
          refine tb5 (ts_X6_ofOutlet E q g  _ _  _) fun x34 s32_ => ?_
          refine tb1 (tw_cko _ q g) ?_
          refine tb5 (ts_X6_ownerOf E q g  _ _  _) fun x38 s36_ => ?_
          refine tb6 ?_ ?_
          · exact ts_X6_deliver_b194 E q g  _  _
          · refine tb6 ?_ ?_
            · exact ts_X6_deliver_b194 E q g  _  _
            · refine tb1 (tw_cko _ q g) ?_
              refine tb5 (ts_X6_isActive E q g  _  _) fun x44 s42_ => ?_
              refine tb6 ?_ ?_
              · exact ts_X6_deliver_b194 E q g  _  _
              · refine tb1 (tw_cko _ q g) ?_
                refine tb5 (ts_X6_isActive E q g  _  _) fun x49 s47_ => ?_
                refine tb6 ?_ ?_
                · exact ts_X6_deliver_b194 E q g  _  _
                · refine tb1 (tw_gR_0 _ q g) ?_
                  refine tb2 (tw_dL _ q g (by decide) _ ) fun x53 => ?_
                  refine tb4 (tw_sL _ q g (by decide) _ _ ) fun s55_ => ?_
                  exact ts_X6_deliver_b194 E q g  _  _
        · rfl
    · exact ts_X6_deliver_b71 E q g   _
  · exact ts_X6_deliver_b71 E q g   _
def t_X6_deliver_b47 (E : zE) (p1 : Int32) (p2 : Int32) (p3 : Int32) (p4 : Int64) (s : twS) : Option (Int64 × twS) :=
  t_X6_deliver_b52 E p1 p2 p3 p4 (1 : Int32) s
theorem ts_X6_deliver_b47 (E : zE) (q : Nat) (g : zH) (p1 : Int32) (p2 : Int32) (p3 : Int32) (p4 : Int64) (s : twS) : f_X6_deliver_b47 E q p1 p2 p3 p4 q (tw s q g) = (t_X6_deliver_b47 E p1 p2 p3 p4 s).map (zem q g) := by
  unfold f_X6_deliver_b47 t_X6_deliver_b47
  exact ts_X6_deliver_b52 E q g  _ _ _ _ _  _
def t_X6_deliver_b19 (E : zE) (p1 : Int32) (p2 : Int32) (p3 : Int32) (p4 : Int64) (s1 : Int32) (s : twS) : Option (Int64 × twS) :=
  bnd2 (t_X6_throwsIf E s1 (1 : Int32) s) fun x4 s2_ =>
  if x4 = 0 then (
    bnd2 (t_X6_isCell E p2 p3 s2_) fun x8 s6_ =>
    if x8 = 0 then (
      t_X6_deliver_b47 E p1 p2 p3 p4 s6_
    ) else (
      bnd2 (t_X6_inRange E p4 (1 : Int64) (10000000 : Int64) s6_) fun x12 s10_ =>
      if x12 = 0 then (
        t_X6_deliver_b47 E p1 p2 p3 p4 s10_
      ) else (
        t_X6_deliver_b52 E p1 p2 p3 p4 (0 : Int32) s10_
      )
    )
  ) else (
    t_X6_deliver_b71 E s2_
  )
theorem ts_X6_deliver_b19 (E : zE) (q : Nat) (g : zH) (p1 : Int32) (p2 : Int32) (p3 : Int32) (p4 : Int64) (s1 : Int32) (s : twS) : f_X6_deliver_b19 E q p1 p2 p3 p4 q s1 (tw s q g) = (t_X6_deliver_b19 E p1 p2 p3 p4 s1 s).map (zem q g) := by
  unfold f_X6_deliver_b19 t_X6_deliver_b19
  refine tb1 (tw_cko _ q g) ?_
  refine tb5 (ts_X6_throwsIf E q g  _ _  _) fun x4 s2_ => ?_
  refine tb6 ?_ ?_
  · refine tb5 (ts_X6_isCell E q g  _ _  _) fun x8 s6_ => ?_
    refine tb6 ?_ ?_
    · exact ts_X6_deliver_b47 E q g  _ _ _ _  _
    · refine tb5 (ts_X6_inRange E q g  _ _ _  _) fun x12 s10_ => ?_
      refine tb6 ?_ ?_
      · exact ts_X6_deliver_b47 E q g  _ _ _ _  _
      · exact ts_X6_deliver_b52 E q g  _ _ _ _ _  _
  · exact ts_X6_deliver_b71 E q g   _
def t_X6_deliver_b0 (E : zE) (p1 : Int32) (p2 : Int32) (p3 : Int32) (p4 : Int64) (s : twS) : Option (Int64 × twS) :=
  bnd2 (t_X6_isOutlet E p1 (uSc s 2 (0 : Int32))) fun x6 s4_ =>
  if x6 = 0 then (
    t_X6_deliver_b19 E p1 p2 p3 p4 (1 : Int32) s4_
  ) else (
    t_X6_deliver_b19 E p1 p2 p3 p4 (0 : Int32) s4_
  )
theorem ts_X6_deliver_b0 (E : zE) (q : Nat) (g : zH) (p1 : Int32) (p2 : Int32) (p3 : Int32) (p4 : Int64) (s : twS) : f_X6_deliver_b0 E q p1 p2 p3 p4 (tw s q g) = (t_X6_deliver_b0 E p1 p2 p3 p4 s).map (zem q g) := by
  unfold f_X6_deliver_b0 t_X6_deliver_b0
  refine tb1 (tw_pI_2 _ q g _) ?_
  refine tb1 (tw_cko _ q g) ?_
  refine tb5 (ts_X6_isOutlet E q g  _  _) fun x6 s4_ => ?_
  refine tb6 ?_ ?_
  · exact ts_X6_deliver_b19 E q g  _ _ _ _ _  _
  · exact ts_X6_deliver_b19 E q g  _ _ _ _ _  _
def t_X6_deliver (E : zE) (p1 : Int32) (p2 : Int32) (p3 : Int32) (p4 : Int64) (s : twS) : Option (Int64 × twS) :=
  t_X6_deliver_b0 E p1 p2 p3 p4 s
theorem ts_X6_deliver (E : zE) (q : Nat) (g : zH) (p1 : Int32) (p2 : Int32) (p3 : Int32) (p4 : Int64) (s : twS) : f_X6_deliver E q p1 p2 p3 p4 (tw s q g) = (t_X6_deliver E p1 p2 p3 p4 s).map (zem q g) := by
  unfold f_X6_deliver t_X6_deliver
  exact ts_X6_deliver_b0 E q g  _ _ _ _  _
def t_X6_sales_b36 (E : zE) (s0 : Int64) (s : twS) : Option (Int64 × twS) :=
  some (s0, s)
theorem ts_X6_sales_b36 (E : zE) (q : Nat) (g : zH) (s0 : Int64) (s : twS) : f_X6_sales_b36 E s0 (tw s q g) = (t_X6_sales_b36 E s0 s).map (zem q g) := by
  unfold f_X6_sales_b36 t_X6_sales_b36
  rfl
def t_X6_sales_b19 (E : zE) (p1 : Int32) (s1 : Int32) (s : twS) : Option (Int64 × twS) :=
  bnd2 (t_X6_throwsIf E s1 (1 : Int32) s) fun x4 s2_ =>
  if x4 = 0 then (
    bnd2 (t_X6_ofOutlet E p1 (3 : Int32) s2_) fun x9 s7_ =>
    t_X6_sales_b36 E x9 s7_
  ) else (
    t_X6_sales_b36 E (0 : Int64) s2_
  )
theorem ts_X6_sales_b19 (E : zE) (q : Nat) (g : zH) (p1 : Int32) (s1 : Int32) (s : twS) : f_X6_sales_b19 E q p1 q s1 (tw s q g) = (t_X6_sales_b19 E p1 s1 s).map (zem q g) := by
  unfold f_X6_sales_b19 t_X6_sales_b19
  refine tb1 (tw_cko _ q g) ?_
  refine tb5 (ts_X6_throwsIf E q g  _ _  _) fun x4 s2_ => ?_
  refine tb6 ?_ ?_
  · refine tb1 (tw_cko _ q g) ?_
    refine tb5 (ts_X6_ofOutlet E q g  _ _  _) fun x9 s7_ => ?_
    exact ts_X6_sales_b36 E q g  _  _
  · exact ts_X6_sales_b36 E q g  _  _
def t_X6_sales_b0 (E : zE) (p1 : Int32) (s : twS) : Option (Int64 × twS) :=
  bnd2 (t_X6_isOutlet E p1 (uSc s 2 (0 : Int32))) fun x6 s4_ =>
  if x6 = 0 then (
    t_X6_sales_b19 E p1 (1 : Int32) s4_
  ) else (
    t_X6_sales_b19 E p1 (0 : Int32) s4_
  )
theorem ts_X6_sales_b0 (E : zE) (q : Nat) (g : zH) (p1 : Int32) (s : twS) : f_X6_sales_b0 E q p1 (tw s q g) = (t_X6_sales_b0 E p1 s).map (zem q g) := by
  unfold f_X6_sales_b0 t_X6_sales_b0
  refine tb1 (tw_pI_2 _ q g _) ?_
  refine tb1 (tw_cko _ q g) ?_
  refine tb5 (ts_X6_isOutlet E q g  _  _) fun x6 s4_ => ?_
  refine tb6 ?_ ?_
  · exact ts_X6_sales_b19 E q g  _ _  _
  · exact ts_X6_sales_b19 E q g  _ _  _
def t_X6_sales (E : zE) (p1 : Int32) (s : twS) : Option (Int64 × twS) :=
  t_X6_sales_b0 E p1 s
theorem ts_X6_sales (E : zE) (q : Nat) (g : zH) (p1 : Int32) (s : twS) : f_X6_sales E q p1 (tw s q g) = (t_X6_sales E p1 s).map (zem q g) := by
  unfold f_X6_sales t_X6_sales
  exact ts_X6_sales_b0 E q g  _  _
def t_X6_isClosed_b0 (E : zE) (p1 : Int32) (s : twS) : Option (Int32 × twS) :=
  (tdL s 1 (0 : Int32)).bind fun x3 =>
  bnd2 (t_X6_inRange E (p1.toInt64) (0 : Int64) (x3 - (1 : Int64)) s) fun x7 s5_ =>
  (zgd .boolean x7).bind fun _ =>
  some (x7, s5_)
theorem ts_X6_isClosed_b0 (E : zE) (q : Nat) (g : zH) (p1 : Int32) (s : twS) : f_X6_isClosed_b0 E q p1 (tw s q g) = (t_X6_isClosed_b0 E p1 s).map (zem q g) := by
  unfold f_X6_isClosed_b0 t_X6_isClosed_b0
  refine tb1 (tw_gR_0 _ q g) ?_
  refine tb2 (tw_dL _ q g (by decide) _ ) fun x3 => ?_
  refine tb5 (ts_X6_inRange E q g  _ _ _  _) fun x7 s5_ => ?_
  refine tb2 rfl fun _ => ?_
  rfl
def t_X6_isClosed (E : zE) (p1 : Int32) (s : twS) : Option (Int32 × twS) :=
  t_X6_isClosed_b0 E p1 s
theorem ts_X6_isClosed (E : zE) (q : Nat) (g : zH) (p1 : Int32) (s : twS) : f_X6_isClosed E q p1 (tw s q g) = (t_X6_isClosed E p1 s).map (zem q g) := by
  unfold f_X6_isClosed t_X6_isClosed
  exact ts_X6_isClosed_b0 E q g  _  _
def t_X6_recorded_b0 (E : zE) (p1 : Int32) (p2 : Int32) (s : twS) : Option (Int64 × twS) :=
  (tdL s 1 (((1214 : Int32) + ((8 : Int32) * p2)) + p1)).bind fun x3 =>
  some (x3, s)
theorem ts_X6_recorded_b0 (E : zE) (q : Nat) (g : zH) (p1 : Int32) (p2 : Int32) (s : twS) : f_X6_recorded_b0 E q p1 p2 (tw s q g) = (t_X6_recorded_b0 E p1 p2 s).map (zem q g) := by
  unfold f_X6_recorded_b0 t_X6_recorded_b0
  refine tb1 (tw_gR_0 _ q g) ?_
  refine tb2 (tw_dL _ q g (by decide) _ ) fun x3 => ?_
  rfl
def t_X6_recorded (E : zE) (p1 : Int32) (p2 : Int32) (s : twS) : Option (Int64 × twS) :=
  t_X6_recorded_b0 E p1 p2 s
theorem ts_X6_recorded (E : zE) (q : Nat) (g : zH) (p1 : Int32) (p2 : Int32) (s : twS) : f_X6_recorded E q p1 p2 (tw s q g) = (t_X6_recorded E p1 p2 s).map (zem q g) := by
  unfold f_X6_recorded t_X6_recorded
  exact ts_X6_recorded_b0 E q g  _ _  _
def t_X6_salesOf_b57 (E : zE) (s0 : Int64) (s : twS) : Option (Int64 × twS) :=
  some (s0, s)
theorem ts_X6_salesOf_b57 (E : zE) (q : Nat) (g : zH) (s0 : Int64) (s : twS) : f_X6_salesOf_b57 E s0 (tw s q g) = (t_X6_salesOf_b57 E s0 s).map (zem q g) := by
  unfold f_X6_salesOf_b57 t_X6_salesOf_b57
  rfl
def t_X6_salesOf_b47 (E : zE) (s : twS) : Option (Int64 × twS) :=
  t_X6_salesOf_b57 E (0 : Int64) s
theorem ts_X6_salesOf_b47 (E : zE) (q : Nat) (g : zH) (s : twS) : f_X6_salesOf_b47 E  (tw s q g) = (t_X6_salesOf_b47 E  s).map (zem q g) := by
  unfold f_X6_salesOf_b47 t_X6_salesOf_b47
  exact ts_X6_salesOf_b57 E q g  _  _
def t_X6_salesOf_b40 (E : zE) (p1 : Int32) (p2 : Int32) (s1 : Int32) (s : twS) : Option (Int64 × twS) :=
  bnd2 (t_X6_throwsIf E s1 (2 : Int32) s) fun x4 s2_ =>
  if x4 = 0 then (
    bnd2 (t_X6_recorded E p1 p2 s2_) fun x9 s7_ =>
    t_X6_salesOf_b57 E x9 s7_
  ) else (
    t_X6_salesOf_b47 E s2_
  )
theorem ts_X6_salesOf_b40 (E : zE) (q : Nat) (g : zH) (p1 : Int32) (p2 : Int32) (s1 : Int32) (s : twS) : f_X6_salesOf_b40 E q p1 p2 q s1 (tw s q g) = (t_X6_salesOf_b40 E p1 p2 s1 s).map (zem q g) := by
  unfold f_X6_salesOf_b40 t_X6_salesOf_b40
  refine tb1 (tw_cko _ q g) ?_
  refine tb5 (ts_X6_throwsIf E q g  _ _  _) fun x4 s2_ => ?_
  refine tb6 ?_ ?_
  · refine tb1 (tw_cko _ q g) ?_
    refine tb5 (ts_X6_recorded E q g  _ _  _) fun x9 s7_ => ?_
    exact ts_X6_salesOf_b57 E q g  _  _
  · exact ts_X6_salesOf_b47 E q g   _
def t_X6_salesOf_b19 (E : zE) (p1 : Int32) (p2 : Int32) (s1 : Int32) (s : twS) : Option (Int64 × twS) :=
  bnd2 (t_X6_throwsIf E s1 (1 : Int32) s) fun x4 s2_ =>
  if x4 = 0 then (
    bnd2 (t_X6_isClosed E p2 s2_) fun x9 s7_ =>
    if x9 = 0 then (
      t_X6_salesOf_b40 E p1 p2 (1 : Int32) s7_
    ) else (
      t_X6_salesOf_b40 E p1 p2 (0 : Int32) s7_
    )
  ) else (
    t_X6_salesOf_b47 E s2_
  )
theorem ts_X6_salesOf_b19 (E : zE) (q : Nat) (g : zH) (p1 : Int32) (p2 : Int32) (s1 : Int32) (s : twS) : f_X6_salesOf_b19 E q p1 p2 q s1 (tw s q g) = (t_X6_salesOf_b19 E p1 p2 s1 s).map (zem q g) := by
  unfold f_X6_salesOf_b19 t_X6_salesOf_b19
  refine tb1 (tw_cko _ q g) ?_
  refine tb5 (ts_X6_throwsIf E q g  _ _  _) fun x4 s2_ => ?_
  refine tb6 ?_ ?_
  · refine tb1 (tw_cko _ q g) ?_
    refine tb5 (ts_X6_isClosed E q g  _  _) fun x9 s7_ => ?_
    refine tb6 ?_ ?_
    · exact ts_X6_salesOf_b40 E q g  _ _ _  _
    · exact ts_X6_salesOf_b40 E q g  _ _ _  _
  · exact ts_X6_salesOf_b47 E q g   _
def t_X6_salesOf_b0 (E : zE) (p1 : Int32) (p2 : Int32) (s : twS) : Option (Int64 × twS) :=
  bnd2 (t_X6_isFranchisee E p1 (uSc s 2 (0 : Int32))) fun x6 s4_ =>
  if x6 = 0 then (
    t_X6_salesOf_b19 E p1 p2 (1 : Int32) s4_
  ) else (
    t_X6_salesOf_b19 E p1 p2 (0 : Int32) s4_
  )
theorem ts_X6_salesOf_b0 (E : zE) (q : Nat) (g : zH) (p1 : Int32) (p2 : Int32) (s : twS) : f_X6_salesOf_b0 E q p1 p2 (tw s q g) = (t_X6_salesOf_b0 E p1 p2 s).map (zem q g) := by
  unfold f_X6_salesOf_b0 t_X6_salesOf_b0
  refine tb1 (tw_pI_2 _ q g _) ?_
  refine tb1 (tw_cko _ q g) ?_
  refine tb5 (ts_X6_isFranchisee E q g  _  _) fun x6 s4_ => ?_
  refine tb6 ?_ ?_
  · exact ts_X6_salesOf_b19 E q g  _ _ _  _
  · exact ts_X6_salesOf_b19 E q g  _ _ _  _
def t_X6_salesOf (E : zE) (p1 : Int32) (p2 : Int32) (s : twS) : Option (Int64 × twS) :=
  t_X6_salesOf_b0 E p1 p2 s
theorem ts_X6_salesOf (E : zE) (q : Nat) (g : zH) (p1 : Int32) (p2 : Int32) (s : twS) : f_X6_salesOf E q p1 p2 (tw s q g) = (t_X6_salesOf E p1 p2 s).map (zem q g) := by
  unfold f_X6_salesOf t_X6_salesOf
  exact ts_X6_salesOf_b0 E q g  _ _  _
def t_X6_recordedInAll_l5 (E : zE) : Nat → Int32 → Int64 → Int32 → twS → Option (Int64 × twS)
  | 0, _, _, _, _ => none
  | n + 1, p1, p2, p4, s =>
    (tdL s 1 (0 : Int32)).bind fun x3 =>
    if x3 ≤ (p4.toInt64) then (
      some (p2, s)
    ) else (
      bnd2 (t_X6_recorded E p1 p4 s) fun x9 s7_ =>
      t_X6_recordedInAll_l5 E n p1 (p2 + x9) (p4 + 1) s7_
    )
theorem ts_X6_recordedInAll_l5 (E : zE) (q : Nat) (g : zH) : ∀ (n : Nat) (p1 : Int32) (p2 : Int64) (p4 : Int32) (s : twS), f_X6_recordedInAll_l5 E n q p1 p2 p4 (tw s q g) = (t_X6_recordedInAll_l5 E n p1 p2 p4 s).map (zem q g) := by
  intro n
  induction n with
  | zero => intros; rfl
  | succ n ih =>
    intro p1 p2 p4 s
    unfold f_X6_recordedInAll_l5 t_X6_recordedInAll_l5
    refine tb1 (tw_gR_0 _ q g) ?_
    refine tb2 (tw_dL _ q g (by decide) _ ) fun x3 => ?_
    refine tb6 ?_ ?_
    · rfl
    · refine tb1 (tw_cko _ q g) ?_
      refine tb5 (ts_X6_recorded E q g  _ _  _) fun x9 s7_ => ?_
      exact ih _ _ _  _
def t_X6_recordedInAll_b0 (E : zE) (p1 : Int32) (s : twS) : Option (Int64 × twS) :=
  t_X6_recordedInAll_l5 E E.1 p1 (0 : Int64) (0 : Int32) s
theorem ts_X6_recordedInAll_b0 (E : zE) (q : Nat) (g : zH) (p1 : Int32) (s : twS) : f_X6_recordedInAll_b0 E q p1 (tw s q g) = (t_X6_recordedInAll_b0 E p1 s).map (zem q g) := by
  unfold f_X6_recordedInAll_b0 t_X6_recordedInAll_b0
  exact ts_X6_recordedInAll_l5 E q g E.1 _ _ _  _
def t_X6_recordedInAll (E : zE) (p1 : Int32) (s : twS) : Option (Int64 × twS) :=
  t_X6_recordedInAll_b0 E p1 s
theorem ts_X6_recordedInAll (E : zE) (q : Nat) (g : zH) (p1 : Int32) (s : twS) : f_X6_recordedInAll E q p1 (tw s q g) = (t_X6_recordedInAll E p1 s).map (zem q g) := by
  unfold f_X6_recordedInAll t_X6_recordedInAll
  exact ts_X6_recordedInAll_b0 E q g  _  _
def t_X6_ranked_b77 (E : zE) (k7 : Int32 → Int32 → twS → Option (Int32 × twS)) (k24 : Int32 → Int32 → Int32 → Int32 → twS → Option (Int32 × twS)) (p1 : Int32) (p2 : Int32) (p4 : Int32) (s0 : Int32) (s1 : Int32) (s : twS) : Option (Int32 × twS) :=
  k24 p1 p2 (s0 + s1) (p4 + 1) s
theorem ts_X6_ranked_b77 (E : zE) (q : Nat) (g : zH) {K7 : Nat → Int32 → Int32 → zH → Option (Int32 × zH)} {k7 : Int32 → Int32 → twS → Option (Int32 × twS)} (hk7 : ∀ (p1 : Int32) (p2 : Int32) (s : twS), K7 q p1 p2 (tw s q g) = (k7 p1 p2 s).map (zem q g)) {K24 : Nat → Int32 → Int32 → Int32 → Int32 → zH → Option (Int32 × zH)} {k24 : Int32 → Int32 → Int32 → Int32 → twS → Option (Int32 × twS)} (hk24 : ∀ (p1 : Int32) (p2 : Int32) (p3 : Int32) (p4 : Int32) (s : twS), K24 q p1 p2 p3 p4 (tw s q g) = (k24 p1 p2 p3 p4 s).map (zem q g)) (p1 : Int32) (p2 : Int32) (p4 : Int32) (s0 : Int32) (s1 : Int32) (s : twS) : f_X6_ranked_b77 E K7 K24 q p1 p2 p4 s0 s1 (tw s q g) = (t_X6_ranked_b77 E k7 k24 p1 p2 p4 s0 s1 s).map (zem q g) := by
  unfold f_X6_ranked_b77 t_X6_ranked_b77
  exact hk24 _ _ _ _  _
def t_X6_ranked_b72 (E : zE) (k7 : Int32 → Int32 → twS → Option (Int32 × twS)) (k24 : Int32 → Int32 → Int32 → Int32 → twS → Option (Int32 × twS)) (p1 : Int32) (p2 : Int32) (p4 : Int32) (s0 : Int32) (s : twS) : Option (Int32 × twS) :=
  t_X6_ranked_b77 E k7 k24 p1 p2 p4 s0 (1 : Int32) s
theorem ts_X6_ranked_b72 (E : zE) (q : Nat) (g : zH) {K7 : Nat → Int32 → Int32 → zH → Option (Int32 × zH)} {k7 : Int32 → Int32 → twS → Option (Int32 × twS)} (hk7 : ∀ (p1 : Int32) (p2 : Int32) (s : twS), K7 q p1 p2 (tw s q g) = (k7 p1 p2 s).map (zem q g)) {K24 : Nat → Int32 → Int32 → Int32 → Int32 → zH → Option (Int32 × zH)} {k24 : Int32 → Int32 → Int32 → Int32 → twS → Option (Int32 × twS)} (hk24 : ∀ (p1 : Int32) (p2 : Int32) (p3 : Int32) (p4 : Int32) (s : twS), K24 q p1 p2 p3 p4 (tw s q g) = (k24 p1 p2 p3 p4 s).map (zem q g)) (p1 : Int32) (p2 : Int32) (p4 : Int32) (s0 : Int32) (s : twS) : f_X6_ranked_b72 E K7 K24 q p1 p2 p4 s0 (tw s q g) = (t_X6_ranked_b72 E k7 k24 p1 p2 p4 s0 s).map (zem q g) := by
  unfold f_X6_ranked_b72 t_X6_ranked_b72
  exact ts_X6_ranked_b77 E q g hk7 hk24  _ _ _ _ _  _
def t_X6_ranked_b76 (E : zE) (k7 : Int32 → Int32 → twS → Option (Int32 × twS)) (k24 : Int32 → Int32 → Int32 → Int32 → twS → Option (Int32 × twS)) (p1 : Int32) (p2 : Int32) (p4 : Int32) (s0 : Int32) (s : twS) : Option (Int32 × twS) :=
  t_X6_ranked_b77 E k7 k24 p1 p2 p4 s0 (0 : Int32) s
theorem ts_X6_ranked_b76 (E : zE) (q : Nat) (g : zH) {K7 : Nat → Int32 → Int32 → zH → Option (Int32 × zH)} {k7 : Int32 → Int32 → twS → Option (Int32 × twS)} (hk7 : ∀ (p1 : Int32) (p2 : Int32) (s : twS), K7 q p1 p2 (tw s q g) = (k7 p1 p2 s).map (zem q g)) {K24 : Nat → Int32 → Int32 → Int32 → Int32 → zH → Option (Int32 × zH)} {k24 : Int32 → Int32 → Int32 → Int32 → twS → Option (Int32 × twS)} (hk24 : ∀ (p1 : Int32) (p2 : Int32) (p3 : Int32) (p4 : Int32) (s : twS), K24 q p1 p2 p3 p4 (tw s q g) = (k24 p1 p2 p3 p4 s).map (zem q g)) (p1 : Int32) (p2 : Int32) (p4 : Int32) (s0 : Int32) (s : twS) : f_X6_ranked_b76 E K7 K24 q p1 p2 p4 s0 (tw s q g) = (t_X6_ranked_b76 E k7 k24 p1 p2 p4 s0 s).map (zem q g) := by
  unfold f_X6_ranked_b76 t_X6_ranked_b76
  exact ts_X6_ranked_b77 E q g hk7 hk24  _ _ _ _ _  _
def t_X6_ranked_l24 (E : zE) (k7 : Int32 → Int32 → twS → Option (Int32 × twS)) : Nat → Int32 → Int32 → Int32 → Int32 → twS → Option (Int32 × twS)
  | 0, _, _, _, _, _ => none
  | n + 1, p1, p2, p3, p4, s =>
    (tdL s 1 (2 : Int32)).bind fun x3 =>
    if x3 ≤ (p4.toInt64) then (
      if p3 = p1 then (
        some (p2, s)
      ) else (
        k7 p1 (p2 + 1) s
      )
    ) else (
      bnd2 (t_X6_recordedInAll E p4 s) fun x10 s8_ =>
      bnd2 (t_X6_recordedInAll E p2 s8_) fun x14 s12_ =>
      if (0 : Int64) < (x10 - x14) then (
        t_X6_ranked_b72 E k7 (t_X6_ranked_l24 E k7 n) p1 p2 p4 p3 s12_
      ) else (
        if (x10 - x14) = (0 : Int64) then (
          if p2 ≤ p4 then (
            t_X6_ranked_b76 E k7 (t_X6_ranked_l24 E k7 n) p1 p2 p4 p3 s12_
          ) else (
            t_X6_ranked_b72 E k7 (t_X6_ranked_l24 E k7 n) p1 p2 p4 p3 s12_
          )
        ) else (
          t_X6_ranked_b76 E k7 (t_X6_ranked_l24 E k7 n) p1 p2 p4 p3 s12_
        )
      )
    )
theorem ts_X6_ranked_l24 (E : zE) (q : Nat) (g : zH) {K7 : Nat → Int32 → Int32 → zH → Option (Int32 × zH)} {k7 : Int32 → Int32 → twS → Option (Int32 × twS)} (hk7 : ∀ (p1 : Int32) (p2 : Int32) (s : twS), K7 q p1 p2 (tw s q g) = (k7 p1 p2 s).map (zem q g)) : ∀ (n : Nat) (p1 : Int32) (p2 : Int32) (p3 : Int32) (p4 : Int32) (s : twS), f_X6_ranked_l24 E K7 n q p1 p2 p3 p4 (tw s q g) = (t_X6_ranked_l24 E k7 n p1 p2 p3 p4 s).map (zem q g) := by
  intro n
  induction n with
  | zero => intros; rfl
  | succ n ih =>
    intro p1 p2 p3 p4 s
    unfold f_X6_ranked_l24 t_X6_ranked_l24
    refine tb1 (tw_gR_0 _ q g) ?_
    refine tb2 (tw_dL _ q g (by decide) _ ) fun x3 => ?_
    refine tb6 ?_ ?_
    · refine tb6 ?_ ?_
      · rfl
      · exact hk7 _ _  _
    · refine tb1 (tw_cko _ q g) ?_
      refine tb5 (ts_X6_recordedInAll E q g  _  _) fun x10 s8_ => ?_
      refine tb1 (tw_cko _ q g) ?_
      refine tb5 (ts_X6_recordedInAll E q g  _  _) fun x14 s12_ => ?_
      refine tb6 ?_ ?_
      · exact ts_X6_ranked_b72 E q g hk7 ih  _ _ _ _  _
      · refine tb6 ?_ ?_
        · refine tb6 ?_ ?_
          · exact ts_X6_ranked_b76 E q g hk7 ih  _ _ _ _  _
          · exact ts_X6_ranked_b72 E q g hk7 ih  _ _ _ _  _
        · exact ts_X6_ranked_b76 E q g hk7 ih  _ _ _ _  _
def t_X6_ranked_l7 (E : zE) : Nat → Int32 → Int32 → twS → Option (Int32 × twS)
  | 0, _, _, _ => none
  | n + 1, p1, p2, s =>
    (tdL s 1 (2 : Int32)).bind fun x3 =>
    if x3 ≤ (p2.toInt64) then (
      some ((-1 : Int32), s)
    ) else (
      t_X6_ranked_l24 E (t_X6_ranked_l7 E n) E.1 p1 p2 (0 : Int32) (0 : Int32) s
    )
theorem ts_X6_ranked_l7 (E : zE) (q : Nat) (g : zH) : ∀ (n : Nat) (p1 : Int32) (p2 : Int32) (s : twS), f_X6_ranked_l7 E n q p1 p2 (tw s q g) = (t_X6_ranked_l7 E n p1 p2 s).map (zem q g) := by
  intro n
  induction n with
  | zero => intros; rfl
  | succ n ih =>
    intro p1 p2 s
    unfold f_X6_ranked_l7 t_X6_ranked_l7
    refine tb1 (tw_gR_0 _ q g) ?_
    refine tb2 (tw_dL _ q g (by decide) _ ) fun x3 => ?_
    refine tb6 ?_ ?_
    · rfl
    · exact ts_X6_ranked_l24 E q g ih E.1 _ _ _ _  _
def t_X6_ranked_b0 (E : zE) (p1 : Int32) (s : twS) : Option (Int32 × twS) :=
  t_X6_ranked_l7 E E.1 p1 (0 : Int32) (uSc s 2 (0 : Int32))
theorem ts_X6_ranked_b0 (E : zE) (q : Nat) (g : zH) (p1 : Int32) (s : twS) : f_X6_ranked_b0 E q p1 (tw s q g) = (t_X6_ranked_b0 E p1 s).map (zem q g) := by
  unfold f_X6_ranked_b0 t_X6_ranked_b0
  refine tb1 (tw_pI_2 _ q g _) ?_
  exact ts_X6_ranked_l7 E q g E.1 _ _  _
def t_X6_ranked (E : zE) (p1 : Int32) (s : twS) : Option (Int32 × twS) :=
  t_X6_ranked_b0 E p1 s
theorem ts_X6_ranked (E : zE) (q : Nat) (g : zH) (p1 : Int32) (s : twS) : f_X6_ranked E q p1 (tw s q g) = (t_X6_ranked E p1 s).map (zem q g) := by
  unfold f_X6_ranked t_X6_ranked
  exact ts_X6_ranked_b0 E q g  _  _
def t_X6_credit_b46 (E : zE) (s0 : Int64) (s : twS) : Option (Int64 × twS) :=
  some (s0, s)
theorem ts_X6_credit_b46 (E : zE) (q : Nat) (g : zH) (s0 : Int64) (s : twS) : f_X6_credit_b46 E s0 (tw s q g) = (t_X6_credit_b46 E s0 s).map (zem q g) := by
  unfold f_X6_credit_b46 t_X6_credit_b46
  rfl
def t_X6_credit_b0 (E : zE) (p1 : Int32) (p2 : Int32) (s : twS) : Option (Int64 × twS) :=
  (tdL s 1 (((1150 : Int32) + ((8 : Int32) * p1)) + p2)).bind fun x3 =>
  (tdL s 1 (4 : Int32)).bind fun x7 =>
  bnd2 (t_X6_rated E x3 x7 s) fun x11 s9_ =>
  (tdL s9_ 1 (5 : Int32)).bind fun x14 =>
  if x14 ≤ x11 then (
    (tdL s9_ 1 (5 : Int32)).bind fun x19 =>
    t_X6_credit_b46 E x19 s9_
  ) else (
    t_X6_credit_b46 E x11 s9_
  )
theorem ts_X6_credit_b0 (E : zE) (q : Nat) (g : zH) (p1 : Int32) (p2 : Int32) (s : twS) : f_X6_credit_b0 E q p1 p2 (tw s q g) = (t_X6_credit_b0 E p1 p2 s).map (zem q g) := by
  unfold f_X6_credit_b0 t_X6_credit_b0
  refine tb1 (tw_gR_0 _ q g) ?_
  refine tb2 (tw_dL _ q g (by decide) _ ) fun x3 => ?_
  refine tb1 (tw_gR_0 _ q g) ?_
  refine tb2 (tw_dL _ q g (by decide) _ ) fun x7 => ?_
  refine tb5 (ts_X6_rated E q g  _ _  _) fun x11 s9_ => ?_
  refine tb1 (tw_gR_0 _ q g) ?_
  refine tb2 (tw_dL _ q g (by decide) _ ) fun x14 => ?_
  refine tb6 ?_ ?_
  · refine tb1 (tw_gR_0 _ q g) ?_
    refine tb2 (tw_dL _ q g (by decide) _ ) fun x19 => ?_
    exact ts_X6_credit_b46 E q g  _  _
  · exact ts_X6_credit_b46 E q g  _  _
def t_X6_credit (E : zE) (p1 : Int32) (p2 : Int32) (s : twS) : Option (Int64 × twS) :=
  t_X6_credit_b0 E p1 p2 s
theorem ts_X6_credit (E : zE) (q : Nat) (g : zH) (p1 : Int32) (p2 : Int32) (s : twS) : f_X6_credit E q p1 p2 (tw s q g) = (t_X6_credit E p1 p2 s).map (zem q g) := by
  unfold f_X6_credit t_X6_credit
  exact ts_X6_credit_b0 E q g  _ _  _
def t_X6_creditDue_b49 (E : zE) (s0 : Int64) (s : twS) : Option (Int64 × twS) :=
  some (s0, s)
theorem ts_X6_creditDue_b49 (E : zE) (q : Nat) (g : zH) (s0 : Int64) (s : twS) : f_X6_creditDue_b49 E s0 (tw s q g) = (t_X6_creditDue_b49 E s0 s).map (zem q g) := by
  unfold f_X6_creditDue_b49 t_X6_creditDue_b49
  rfl
def t_X6_creditDue_b39 (E : zE) (s : twS) : Option (Int64 × twS) :=
  t_X6_creditDue_b49 E (0 : Int64) s
theorem ts_X6_creditDue_b39 (E : zE) (q : Nat) (g : zH) (s : twS) : f_X6_creditDue_b39 E  (tw s q g) = (t_X6_creditDue_b39 E  s).map (zem q g) := by
  unfold f_X6_creditDue_b39 t_X6_creditDue_b39
  exact ts_X6_creditDue_b49 E q g  _  _
def t_X6_creditDue_b27 (E : zE) (p1 : Int32) (p2 : Int32) (s1 : Int32) (s : twS) : Option (Int64 × twS) :=
  bnd2 (t_X6_throwsIf E s1 (1 : Int32) s) fun x4 s2_ =>
  if x4 = 0 then (
    if p1 = p2 then (
      t_X6_creditDue_b39 E s2_
    ) else (
      bnd2 (t_X6_credit E p1 p2 s2_) fun x10 s8_ =>
      t_X6_creditDue_b49 E x10 s8_
    )
  ) else (
    t_X6_creditDue_b39 E s2_
  )
theorem ts_X6_creditDue_b27 (E : zE) (q : Nat) (g : zH) (p1 : Int32) (p2 : Int32) (s1 : Int32) (s : twS) : f_X6_creditDue_b27 E q p1 p2 q s1 (tw s q g) = (t_X6_creditDue_b27 E p1 p2 s1 s).map (zem q g) := by
  unfold f_X6_creditDue_b27 t_X6_creditDue_b27
  refine tb1 (tw_cko _ q g) ?_
  refine tb5 (ts_X6_throwsIf E q g  _ _  _) fun x4 s2_ => ?_
  refine tb6 ?_ ?_
  · refine tb6 ?_ ?_
    · exact ts_X6_creditDue_b39 E q g   _
    · refine tb1 (tw_cko _ q g) ?_
      refine tb5 (ts_X6_credit E q g  _ _  _) fun x10 s8_ => ?_
      exact ts_X6_creditDue_b49 E q g  _  _
  · exact ts_X6_creditDue_b39 E q g   _
def t_X6_creditDue_b22 (E : zE) (p1 : Int32) (p2 : Int32) (s : twS) : Option (Int64 × twS) :=
  t_X6_creditDue_b27 E p1 p2 (1 : Int32) s
theorem ts_X6_creditDue_b22 (E : zE) (q : Nat) (g : zH) (p1 : Int32) (p2 : Int32) (s : twS) : f_X6_creditDue_b22 E q p1 p2 q (tw s q g) = (t_X6_creditDue_b22 E p1 p2 s).map (zem q g) := by
  unfold f_X6_creditDue_b22 t_X6_creditDue_b22
  exact ts_X6_creditDue_b27 E q g  _ _ _  _
def t_X6_creditDue_b0 (E : zE) (p1 : Int32) (p2 : Int32) (s : twS) : Option (Int64 × twS) :=
  bnd2 (t_X6_isFranchisee E p1 (uSc s 2 (0 : Int32))) fun x6 s4_ =>
  if x6 = 0 then (
    t_X6_creditDue_b22 E p1 p2 s4_
  ) else (
    bnd2 (t_X6_isFranchisee E p2 s4_) fun x11 s9_ =>
    if x11 = 0 then (
      t_X6_creditDue_b22 E p1 p2 s9_
    ) else (
      t_X6_creditDue_b27 E p1 p2 (0 : Int32) s9_
    )
  )
theorem ts_X6_creditDue_b0 (E : zE) (q : Nat) (g : zH) (p1 : Int32) (p2 : Int32) (s : twS) : f_X6_creditDue_b0 E q p1 p2 (tw s q g) = (t_X6_creditDue_b0 E p1 p2 s).map (zem q g) := by
  unfold f_X6_creditDue_b0 t_X6_creditDue_b0
  refine tb1 (tw_pI_2 _ q g _) ?_
  refine tb1 (tw_cko _ q g) ?_
  refine tb5 (ts_X6_isFranchisee E q g  _  _) fun x6 s4_ => ?_
  refine tb6 ?_ ?_
  · exact ts_X6_creditDue_b22 E q g  _ _  _
  · refine tb1 (tw_cko _ q g) ?_
    refine tb5 (ts_X6_isFranchisee E q g  _  _) fun x11 s9_ => ?_
    refine tb6 ?_ ?_
    · exact ts_X6_creditDue_b22 E q g  _ _  _
    · exact ts_X6_creditDue_b27 E q g  _ _ _  _
def t_X6_creditDue (E : zE) (p1 : Int32) (p2 : Int32) (s : twS) : Option (Int64 × twS) :=
  t_X6_creditDue_b0 E p1 p2 s
theorem ts_X6_creditDue (E : zE) (q : Nat) (g : zH) (p1 : Int32) (p2 : Int32) (s : twS) : f_X6_creditDue E q p1 p2 (tw s q g) = (t_X6_creditDue E p1 p2 s).map (zem q g) := by
  unfold f_X6_creditDue t_X6_creditDue
  exact ts_X6_creditDue_b0 E q g  _ _  _
def t_X6_calculate_l105 (E : zE) : Nat → Int32 → Int32 → twS → Option (Unit × twS)
  | 0, _, _, _ => none
  | n + 1, p1, p4, s =>
    (tdL s 1 (2 : Int32)).bind fun x3 =>
    if x3 ≤ (p4.toInt64) then (
      (tdL s 5 (0 : Int32)).bind fun x10 =>
      (tdL s 5 (1 : Int32)).bind fun x14 =>
      (tdL s 5 (2 : Int32)).bind fun x18 =>
      (tdL s 5 (3 : Int32)).bind fun x22 =>
      (tdL s 5 (4 : Int32)).bind fun x26 =>
      (tsL s 5 (5 : Int32) ((((x10 + x14) + x18) + x22) - x26)).bind fun s28_ =>
      some ((), s28_)
    ) else (
      (tdL s 5 (3 : Int32)).bind fun x32 =>
      bnd2 (t_X6_credit E p1 p4 s) fun x37 s35_ =>
      (tsL s35_ 5 (3 : Int32) (x32 + x37)).bind fun s38_ =>
      (tdL s38_ 5 (4 : Int32)).bind fun x42 =>
      bnd2 (t_X6_credit E p4 p1 s38_) fun x47 s45_ =>
      (tsL s45_ 5 (4 : Int32) (x42 + x47)).bind fun s48_ =>
      t_X6_calculate_l105 E n p1 (p4 + 1) s48_
    )
theorem ts_X6_calculate_l105 (E : zE) (q : Nat) (g : zH) : ∀ (n : Nat) (p1 : Int32) (p4 : Int32) (s : twS), f_X6_calculate_l105 E n q p1 p4 (tw s q g) = (t_X6_calculate_l105 E n p1 p4 s).map (zem q g) := by
  intro n
  induction n with
  | zero => intros; rfl
  | succ n ih =>
    intro p1 p4 s
    unfold f_X6_calculate_l105 t_X6_calculate_l105
    refine tb1 (tw_gR_0 _ q g) ?_
    refine tb2 (tw_dL _ q g (by decide) _ ) fun x3 => ?_
    refine tb6 ?_ ?_
    · refine tb1 (tw_gR_5 _ q g) ?_
      refine tb1 (tw_gR_5 _ q g) ?_
      refine tb2 (tw_dL _ q g (by decide) _ ) fun x10 => ?_
      refine tb1 (tw_gR_5 _ q g) ?_
      refine tb2 (tw_dL _ q g (by decide) _ ) fun x14 => ?_
      refine tb1 (tw_gR_5 _ q g) ?_
      refine tb2 (tw_dL _ q g (by decide) _ ) fun x18 => ?_
      refine tb1 (tw_gR_5 _ q g) ?_
      refine tb2 (tw_dL _ q g (by decide) _ ) fun x22 => ?_
      refine tb1 (tw_gR_5 _ q g) ?_
      refine tb2 (tw_dL _ q g (by decide) _ ) fun x26 => ?_
      refine tb4 (tw_sL _ q g (by decide) _ _ ) fun s28_ => ?_
      rfl
    · refine tb1 (tw_gR_5 _ q g) ?_
      refine tb2 (tw_dL _ q g (by decide) _ ) fun x32 => ?_
      refine tb1 (tw_cko _ q g) ?_
      refine tb5 (ts_X6_credit E q g  _ _  _) fun x37 s35_ => ?_
      refine tb4 (tw_sL _ q g (by decide) _ _ ) fun s38_ => ?_
      refine tb1 (tw_gR_5 _ q g) ?_
      refine tb2 (tw_dL _ q g (by decide) _ ) fun x42 => ?_
      refine tb1 (tw_cko _ q g) ?_
      refine tb5 (ts_X6_credit E q g  _ _  _) fun x47 s45_ => ?_
      refine tb4 (tw_sL _ q g (by decide) _ _ ) fun s48_ => ?_
      exact ih _ _  _
def t_X6_calculate_b102 (E : zE) (p1 : Int32) (s : twS) : Option (Unit × twS) :=
  t_X6_calculate_l105 E E.1 p1 (0 : Int32) s
theorem ts_X6_calculate_b102 (E : zE) (q : Nat) (g : zH) (p1 : Int32) (s : twS) : f_X6_calculate_b102 E q p1 (tw s q g) = (t_X6_calculate_b102 E p1 s).map (zem q g) := by
  unfold f_X6_calculate_b102 t_X6_calculate_b102
  exact ts_X6_calculate_l105 E q g E.1 _ _  _
def t_X6_calculate_l3 (E : zE) : Nat → Int32 → Int64 → Int32 → twS → Option (Unit × twS)
  | 0, _, _, _, _ => none
  | n + 1, p1, p2, p4, s =>
    if (7 : Int32) ≤ p4 then (
      bnd2 (t_X6_isActive E p1 s) fun x5 s3_ =>
      if x5 = 0 then (
        some ((), s3_)
      ) else (
        bnd2 (t_X6_planNow E p1 s3_) fun x12 s10_ =>
        bnd2 (t_X6_royaltyOf E x12 p2 s10_) fun x16 s14_ =>
        (tsL s14_ 5 (0 : Int32) x16).bind fun s17_ =>
        bnd2 (t_X6_planNow E p1 s17_) fun x24 s22_ =>
        bnd2 (t_X6_ofPlan E x24 (0 : Int32) s22_) fun x28 s26_ =>
        bnd2 (t_X6_rated E p2 x28 s26_) fun x31 s29_ =>
        (tsL s29_ 5 (1 : Int32) x31).bind fun s32_ =>
        bnd2 (t_X6_of E p1 (4 : Int32) s32_) fun x37 s35_ =>
        if x37 ≤ (0 : Int64) then (
          t_X6_calculate_b102 E p1 s35_
        ) else (
          bnd2 (t_X6_of E p1 (4 : Int32) s35_) fun x44 s42_ =>
          (tdL s42_ 1 (6 : Int32)).bind fun x47 =>
          bnd2 (t_X6_rated E x44 x47 s42_) fun x51 s49_ =>
          (tsL s49_ 5 (2 : Int32) x51).bind fun s52_ =>
          t_X6_calculate_b102 E p1 s52_
        )
      )
    ) else (
      (tsL s 5 p4 (0 : Int64)).bind fun s56_ =>
      t_X6_calculate_l3 E n p1 p2 (p4 + 1) s56_
    )
theorem ts_X6_calculate_l3 (E : zE) (q : Nat) (g : zH) : ∀ (n : Nat) (p1 : Int32) (p2 : Int64) (p4 : Int32) (s : twS), f_X6_calculate_l3 E n q p1 p2 p4 (tw s q g) = (t_X6_calculate_l3 E n p1 p2 p4 s).map (zem q g) := by
  intro n
  induction n with
  | zero => intros; rfl
  | succ n ih =>
    intro p1 p2 p4 s
    unfold f_X6_calculate_l3 t_X6_calculate_l3
    refine tb6 ?_ ?_
    · refine tb1 (tw_cko _ q g) ?_
      refine tb5 (ts_X6_isActive E q g  _  _) fun x5 s3_ => ?_
      refine tb6 ?_ ?_
      · rfl
      · refine tb1 (tw_gR_5 _ q g) ?_
        refine tb1 (tw_cko _ q g) ?_
        refine tb5 (ts_X6_planNow E q g  _  _) fun x12 s10_ => ?_
        refine tb1 (tw_cko _ q g) ?_
        refine tb5 (ts_X6_royaltyOf E q g  _ _  _) fun x16 s14_ => ?_
        refine tb4 (tw_sL _ q g (by decide) _ _ ) fun s17_ => ?_
        refine tb1 (tw_gR_5 _ q g) ?_
        refine tb1 (tw_cko _ q g) ?_
        refine tb5 (ts_X6_planNow E q g  _  _) fun x24 s22_ => ?_
        refine tb1 (tw_cko _ q g) ?_
        refine tb5 (ts_X6_ofPlan E q g  _ _  _) fun x28 s26_ => ?_
        refine tb5 (ts_X6_rated E q g  _ _  _) fun x31 s29_ => ?_
        refine tb4 (tw_sL _ q g (by decide) _ _ ) fun s32_ => ?_
        refine tb1 (tw_cko _ q g) ?_
        refine tb5 (ts_X6_of E q g  _ _  _) fun x37 s35_ => ?_
        refine tb6 ?_ ?_
        · exact ts_X6_calculate_b102 E q g  _  _
        · refine tb1 (tw_gR_5 _ q g) ?_
          refine tb1 (tw_cko _ q g) ?_
          refine tb5 (ts_X6_of E q g  _ _  _) fun x44 s42_ => ?_
          refine tb1 (tw_gR_0 _ q g) ?_
          refine tb2 (tw_dL _ q g (by decide) _ ) fun x47 => ?_
          refine tb5 (ts_X6_rated E q g  _ _  _) fun x51 s49_ => ?_
          refine tb4 (tw_sL _ q g (by decide) _ _ ) fun s52_ => ?_
          exact ts_X6_calculate_b102 E q g  _  _
    · refine tb1 (tw_gR_5 _ q g) ?_
      refine tb4 (tw_sL _ q g (by decide) _ _ ) fun s56_ => ?_
      exact ih _ _ _  _
def t_X6_calculate_b0 (E : zE) (p1 : Int32) (p2 : Int64) (s : twS) : Option (Unit × twS) :=
  t_X6_calculate_l3 E E.1 p1 p2 (0 : Int32) s
theorem ts_X6_calculate_b0 (E : zE) (q : Nat) (g : zH) (p1 : Int32) (p2 : Int64) (s : twS) : f_X6_calculate_b0 E q p1 p2 (tw s q g) = (t_X6_calculate_b0 E p1 p2 s).map (zem q g) := by
  unfold f_X6_calculate_b0 t_X6_calculate_b0
  exact ts_X6_calculate_l3 E q g E.1 _ _ _  _
def t_X6_calculate (E : zE) (p1 : Int32) (p2 : Int64) (s : twS) : Option (Unit × twS) :=
  t_X6_calculate_b0 E p1 p2 s
theorem ts_X6_calculate (E : zE) (q : Nat) (g : zH) (p1 : Int32) (p2 : Int64) (s : twS) : f_X6_calculate E q p1 p2 (tw s q g) = (t_X6_calculate E p1 p2 s).map (zem q g) := by
  unfold f_X6_calculate t_X6_calculate
  exact ts_X6_calculate_b0 E q g  _ _  _
def t_X6_isDelayOver_b30 (E : zE) (s0 : Int32) (s : twS) : Option (Int32 × twS) :=
  (zgd .boolean s0).bind fun _ =>
  some (s0, s)
theorem ts_X6_isDelayOver_b30 (E : zE) (q : Nat) (g : zH) (s0 : Int32) (s : twS) : f_X6_isDelayOver_b30 E s0 (tw s q g) = (t_X6_isDelayOver_b30 E s0 s).map (zem q g) := by
  unfold f_X6_isDelayOver_b30 t_X6_isDelayOver_b30
  refine tb2 rfl fun _ => ?_
  rfl
def t_X6_isDelayOver_b0 (E : zE) (p1 : Int32) (s : twS) : Option (Int32 × twS) :=
  (tdL s 1 (0 : Int32)).bind fun x3 =>
  bnd2 (t_X6_of E p1 (12 : Int32) s) fun x8 s6_ =>
  (tdL s6_ 1 (9 : Int32)).bind fun x11 =>
  if (x3 - x8) < x11 then (
    t_X6_isDelayOver_b30 E (0 : Int32) s6_
  ) else (
    t_X6_isDelayOver_b30 E (1 : Int32) s6_
  )
theorem ts_X6_isDelayOver_b0 (E : zE) (q : Nat) (g : zH) (p1 : Int32) (s : twS) : f_X6_isDelayOver_b0 E q p1 (tw s q g) = (t_X6_isDelayOver_b0 E p1 s).map (zem q g) := by
  unfold f_X6_isDelayOver_b0 t_X6_isDelayOver_b0
  refine tb1 (tw_gR_0 _ q g) ?_
  refine tb2 (tw_dL _ q g (by decide) _ ) fun x3 => ?_
  refine tb1 (tw_cko _ q g) ?_
  refine tb5 (ts_X6_of E q g  _ _  _) fun x8 s6_ => ?_
  refine tb1 (tw_gR_0 _ q g) ?_
  refine tb2 (tw_dL _ q g (by decide) _ ) fun x11 => ?_
  refine tb6 ?_ ?_
  · exact ts_X6_isDelayOver_b30 E q g  _  _
  · exact ts_X6_isDelayOver_b30 E q g  _  _
def t_X6_isDelayOver (E : zE) (p1 : Int32) (s : twS) : Option (Int32 × twS) :=
  t_X6_isDelayOver_b0 E p1 s
theorem ts_X6_isDelayOver (E : zE) (q : Nat) (g : zH) (p1 : Int32) (s : twS) : f_X6_isDelayOver E q p1 (tw s q g) = (t_X6_isDelayOver E p1 s).map (zem q g) := by
  unfold f_X6_isDelayOver t_X6_isDelayOver
  exact ts_X6_isDelayOver_b0 E q g  _  _
def t_X6_add_b0 (E : zE) (p1 : Int32) (p2 : Int32) (p3 : Int64) (s : twS) : Option (Unit × twS) :=
  (tdL s 1 (((58 : Int32) + ((16 : Int32) * p1)) + p2)).bind fun x3 =>
  (tsL s 1 (((58 : Int32) + ((16 : Int32) * p1)) + p2) (x3 + p3)).bind fun s5_ =>
  some ((), s5_)
theorem ts_X6_add_b0 (E : zE) (q : Nat) (g : zH) (p1 : Int32) (p2 : Int32) (p3 : Int64) (s : twS) : f_X6_add_b0 E q p1 p2 p3 (tw s q g) = (t_X6_add_b0 E p1 p2 p3 s).map (zem q g) := by
  unfold f_X6_add_b0 t_X6_add_b0
  refine tb1 (tw_gR_0 _ q g) ?_
  refine tb2 (tw_dL _ q g (by decide) _ ) fun x3 => ?_
  refine tb4 (tw_sL _ q g (by decide) _ _ ) fun s5_ => ?_
  rfl
def t_X6_add (E : zE) (p1 : Int32) (p2 : Int32) (p3 : Int64) (s : twS) : Option (Unit × twS) :=
  t_X6_add_b0 E p1 p2 p3 s
theorem ts_X6_add (E : zE) (q : Nat) (g : zH) (p1 : Int32) (p2 : Int32) (p3 : Int64) (s : twS) : f_X6_add E q p1 p2 p3 (tw s q g) = (t_X6_add E p1 p2 p3 s).map (zem q g) := by
  unfold f_X6_add t_X6_add
  exact ts_X6_add_b0 E q g  _ _ _  _
def t_X6_doTransfer_b0 (E : zE) (p1 : Int32) (s : twS) : Option (Unit × twS) :=
  bnd2 (t_X6_set E p1 (9 : Int32) (4 : Int64) s) fun x4 s2_ =>
  bnd2 (t_X6_of E p1 (10 : Int32) s2_) fun x8 s6_ =>
  bnd2 (t_X6_set E p1 (2 : Int32) x8 s6_) fun x12 s10_ =>
  bnd2 (t_X6_add E p1 (5 : Int32) (1 : Int64) s10_) fun x16 s14_ =>
  bnd2 (t_X6_set E p1 (6 : Int32) (0 : Int64) s14_) fun x20 s18_ =>
  (tdL s18_ 1 (8 : Int32)).bind fun x23 =>
  bnd2 (t_X6_add E p1 (4 : Int32) x23 s18_) fun x28 s26_ =>
  some ((), s26_)
theorem ts_X6_doTransfer_b0 (E : zE) (q : Nat) (g : zH) (p1 : Int32) (s : twS) : f_X6_doTransfer_b0 E q p1 (tw s q g) = (t_X6_doTransfer_b0 E p1 s).map (zem q g) := by
  unfold f_X6_doTransfer_b0 t_X6_doTransfer_b0
  refine tb1 (tw_cko _ q g) ?_
  refine tb5 (ts_X6_set E q g  _ _ _  _) fun x4 s2_ => ?_
  refine tb1 (tw_cko _ q g) ?_
  refine tb5 (ts_X6_of E q g  _ _  _) fun x8 s6_ => ?_
  refine tb1 (tw_cko _ q g) ?_
  refine tb5 (ts_X6_set E q g  _ _ _  _) fun x12 s10_ => ?_
  refine tb1 (tw_cko _ q g) ?_
  refine tb5 (ts_X6_add E q g  _ _ _  _) fun x16 s14_ => ?_
  refine tb1 (tw_cko _ q g) ?_
  refine tb5 (ts_X6_set E q g  _ _ _  _) fun x20 s18_ => ?_
  refine tb1 (tw_gR_0 _ q g) ?_
  refine tb2 (tw_dL _ q g (by decide) _ ) fun x23 => ?_
  refine tb1 (tw_cko _ q g) ?_
  refine tb5 (ts_X6_add E q g  _ _ _  _) fun x28 s26_ => ?_
  rfl
def t_X6_doTransfer (E : zE) (p1 : Int32) (s : twS) : Option (Unit × twS) :=
  t_X6_doTransfer_b0 E p1 s
theorem ts_X6_doTransfer (E : zE) (q : Nat) (g : zH) (p1 : Int32) (s : twS) : f_X6_doTransfer E q p1 (tw s q g) = (t_X6_doTransfer E p1 s).map (zem q g) := by
  unfold f_X6_doTransfer t_X6_doTransfer
  exact ts_X6_doTransfer_b0 E q g  _  _
def t_X6_invoiceRow_b0 (E : zE) (p1 : Int32) (p2 : Int32) (s : twS) : Option (Int32 × twS) :=
  some (((1694 : Int32) + ((7 : Int32) * (((8 : Int32) * p2) + p1))), s)
theorem ts_X6_invoiceRow_b0 (E : zE) (q : Nat) (g : zH) (p1 : Int32) (p2 : Int32) (s : twS) : f_X6_invoiceRow_b0 E q p1 p2 (tw s q g) = (t_X6_invoiceRow_b0 E p1 p2 s).map (zem q g) := by
  unfold f_X6_invoiceRow_b0 t_X6_invoiceRow_b0
  rfl
def t_X6_invoiceRow (E : zE) (p1 : Int32) (p2 : Int32) (s : twS) : Option (Int32 × twS) :=
  t_X6_invoiceRow_b0 E p1 p2 s
theorem ts_X6_invoiceRow (E : zE) (q : Nat) (g : zH) (p1 : Int32) (p2 : Int32) (s : twS) : f_X6_invoiceRow E q p1 p2 (tw s q g) = (t_X6_invoiceRow E p1 p2 s).map (zem q g) := by
  unfold f_X6_invoiceRow t_X6_invoiceRow
  exact ts_X6_invoiceRow_b0 E q g  _ _  _
def t_X6_closeMonth_l342 (E : zE) : Nat → Int32 → twS → Option (Int32 × twS)
  | 0, _, _ => none
  | n + 1, p4, s =>
    if (1214 : Int32) ≤ p4 then (
      (tdL s 1 (0 : Int32)).bind fun x4 =>
      (tsL s 1 (0 : Int32) (x4 + (1 : Int64))).bind fun s6_ =>
      (tdL s6_ 1 (0 : Int32)).bind fun x10 =>
      some ((x10.toInt32), s6_)
    ) else (
      (tsL s 1 p4 (0 : Int64)).bind fun s14_ =>
      t_X6_closeMonth_l342 E n (p4 + 1) s14_
    )
theorem ts_X6_closeMonth_l342 (E : zE) (q : Nat) (g : zH) : ∀ (n : Nat) (p4 : Int32) (s : twS), f_X6_closeMonth_l342 E n q p4 (tw s q g) = (t_X6_closeMonth_l342 E n p4 s).map (zem q g) := by
  intro n
  induction n with
  | zero => intros; rfl
  | succ n ih =>
    intro p4 s
    unfold f_X6_closeMonth_l342 t_X6_closeMonth_l342
    refine tb6 ?_ ?_
    · refine tb1 (tw_gR_0 _ q g) ?_
      refine tb2 (tw_dL _ q g (by decide) _ ) fun x4 => ?_
      refine tb4 (tw_sL _ q g (by decide) _ _ ) fun s6_ => ?_
      refine tb1 (tw_gR_0 _ q g) ?_
      refine tb2 (tw_dL _ q g (by decide) _ ) fun x10 => ?_
      rfl
    · refine tb1 (tw_gR_0 _ q g) ?_
      refine tb4 (tw_sL _ q g (by decide) _ _ ) fun s14_ => ?_
      exact ih _  _
def t_X6_closeMonth_l302 (E : zE) : Nat → Int32 → twS → Option (Int32 × twS)
  | 0, _, _ => none
  | n + 1, p4, s =>
    (tdL s 1 (3 : Int32)).bind fun x3 =>
    if x3 ≤ (p4.toInt64) then (
      t_X6_closeMonth_l342 E E.1 (1150 : Int32) s
    ) else (
      (tsL s 1 (((186 : Int32) + ((4 : Int32) * p4)) + (3 : Int32)) (0 : Int64)).bind fun s8_ =>
      t_X6_closeMonth_l302 E n (p4 + 1) s8_
    )
theorem ts_X6_closeMonth_l302 (E : zE) (q : Nat) (g : zH) : ∀ (n : Nat) (p4 : Int32) (s : twS), f_X6_closeMonth_l302 E n q p4 (tw s q g) = (t_X6_closeMonth_l302 E n p4 s).map (zem q g) := by
  intro n
  induction n with
  | zero => intros; rfl
  | succ n ih =>
    intro p4 s
    unfold f_X6_closeMonth_l302 t_X6_closeMonth_l302
    refine tb1 (tw_gR_0 _ q g) ?_
    refine tb2 (tw_dL _ q g (by decide) _ ) fun x3 => ?_
    refine tb6 ?_ ?_
    · exact ts_X6_closeMonth_l342 E q g E.1 _  _
    · refine tb1 (tw_gR_0 _ q g) ?_
      refine tb4 (tw_sL _ q g (by decide) _ _ ) fun s8_ => ?_
      exact ih _  _
def t_X6_closeMonth_b271 (E : zE) (k228 : Int32 → Int32 → twS → Option (Int32 × twS)) (p1 : Int32) (p4 : Int32) (s : twS) : Option (Int32 × twS) :=
  bnd2 (t_X6_invoiceRow E p4 p1 s) fun x6 s4_ =>
  bnd2 (t_X6_of E p4 (4 : Int32) s4_) fun x10 s8_ =>
  (tsL s8_ 1 (x6 + (6 : Int32)) x10).bind fun s11_ =>
  k228 p1 (p4 + 1) s11_
theorem ts_X6_closeMonth_b271 (E : zE) (q : Nat) (g : zH) {K228 : Nat → Int32 → Int32 → zH → Option (Int32 × zH)} {k228 : Int32 → Int32 → twS → Option (Int32 × twS)} (hk228 : ∀ (p1 : Int32) (p4 : Int32) (s : twS), K228 q p1 p4 (tw s q g) = (k228 p1 p4 s).map (zem q g)) (p1 : Int32) (p4 : Int32) (s : twS) : f_X6_closeMonth_b271 E K228 q p1 p4 (tw s q g) = (t_X6_closeMonth_b271 E k228 p1 p4 s).map (zem q g) := by
  unfold f_X6_closeMonth_b271 t_X6_closeMonth_b271
  refine tb1 (tw_gR_0 _ q g) ?_
  refine tb1 (tw_cko _ q g) ?_
  refine tb5 (ts_X6_invoiceRow E q g  _ _  _) fun x6 s4_ => ?_
  refine tb1 (tw_cko _ q g) ?_
  refine tb5 (ts_X6_of E q g  _ _  _) fun x10 s8_ => ?_
  refine tb4 (tw_sL _ q g (by decide) _ _ ) fun s11_ => ?_
  exact hk228 _ _  _
def t_X6_closeMonth_l228 (E : zE) : Nat → Int32 → Int32 → twS → Option (Int32 × twS)
  | 0, _, _, _ => none
  | n + 1, p1, p4, s =>
    (tdL s 1 (2 : Int32)).bind fun x3 =>
    if x3 ≤ (p4.toInt64) then (
      t_X6_closeMonth_l302 E E.1 (0 : Int32) s
    ) else (
      bnd2 (t_X6_of E p4 (9 : Int32) s) fun x9 s7_ =>
      if x9 = (2 : Int64) then (
        bnd2 (t_X6_isDelayOver E p4 s7_) fun x14 s12_ =>
        if x14 = 0 then (
          t_X6_closeMonth_b271 E (t_X6_closeMonth_l228 E n) p1 p4 s12_
        ) else (
          bnd2 (t_X6_doTransfer E p4 s12_) fun x19 s17_ =>
          t_X6_closeMonth_b271 E (t_X6_closeMonth_l228 E n) p1 p4 s17_
        )
      ) else (
        t_X6_closeMonth_b271 E (t_X6_closeMonth_l228 E n) p1 p4 s7_
      )
    )
theorem ts_X6_closeMonth_l228 (E : zE) (q : Nat) (g : zH) : ∀ (n : Nat) (p1 : Int32) (p4 : Int32) (s : twS), f_X6_closeMonth_l228 E n q p1 p4 (tw s q g) = (t_X6_closeMonth_l228 E n p1 p4 s).map (zem q g) := by
  intro n
  induction n with
  | zero => intros; rfl
  | succ n ih =>
    intro p1 p4 s
    unfold f_X6_closeMonth_l228 t_X6_closeMonth_l228
    refine tb1 (tw_gR_0 _ q g) ?_
    refine tb2 (tw_dL _ q g (by decide) _ ) fun x3 => ?_
    refine tb6 ?_ ?_
    · exact ts_X6_closeMonth_l302 E q g E.1 _  _
    · refine tb1 (tw_cko _ q g) ?_
      refine tb5 (ts_X6_of E q g  _ _  _) fun x9 s7_ => ?_
      refine tb6 ?_ ?_
      · refine tb1 (tw_cko _ q g) ?_
        refine tb5 (ts_X6_isDelayOver E q g  _  _) fun x14 s12_ => ?_
        refine tb6 ?_ ?_
        · exact ts_X6_closeMonth_b271 E q g ih  _ _  _
        · refine tb1 (tw_cko _ q g) ?_
          refine tb5 (ts_X6_doTransfer E q g  _  _) fun x19 s17_ => ?_
          exact ts_X6_closeMonth_b271 E q g ih  _ _  _
      · exact ts_X6_closeMonth_b271 E q g ih  _ _  _
def t_X6_closeMonth_b162 (E : zE) (k32 : Int32 → Int64 → Int32 → twS → Option (Int32 × twS)) (p1 : Int32) (p2 : Int64) (p4 : Int32) (s : twS) : Option (Int32 × twS) :=
  (tdL s 5 (5 : Int32)).bind fun x3 =>
  bnd2 (t_X6_add E p4 (4 : Int32) x3 s) fun x8 s6_ =>
  (tdL s6_ 5 (1 : Int32)).bind fun x11 =>
  bnd2 (t_X6_add E p4 (7 : Int32) x11 s6_) fun x16 s14_ =>
  (tdL s14_ 5 (1 : Int32)).bind fun x19 =>
  k32 p1 (p2 + x19) (p4 + 1) s14_
theorem ts_X6_closeMonth_b162 (E : zE) (q : Nat) (g : zH) {K32 : Nat → Int32 → Int64 → Int32 → zH → Option (Int32 × zH)} {k32 : Int32 → Int64 → Int32 → twS → Option (Int32 × twS)} (hk32 : ∀ (p1 : Int32) (p2 : Int64) (p4 : Int32) (s : twS), K32 q p1 p2 p4 (tw s q g) = (k32 p1 p2 p4 s).map (zem q g)) (p1 : Int32) (p2 : Int64) (p4 : Int32) (s : twS) : f_X6_closeMonth_b162 E K32 q p1 p2 p4 (tw s q g) = (t_X6_closeMonth_b162 E k32 p1 p2 p4 s).map (zem q g) := by
  unfold f_X6_closeMonth_b162 t_X6_closeMonth_b162
  refine tb1 (tw_gR_5 _ q g) ?_
  refine tb2 (tw_dL _ q g (by decide) _ ) fun x3 => ?_
  refine tb1 (tw_cko _ q g) ?_
  refine tb5 (ts_X6_add E q g  _ _ _  _) fun x8 s6_ => ?_
  refine tb1 (tw_gR_5 _ q g) ?_
  refine tb2 (tw_dL _ q g (by decide) _ ) fun x11 => ?_
  refine tb1 (tw_cko _ q g) ?_
  refine tb5 (ts_X6_add E q g  _ _ _  _) fun x16 s14_ => ?_
  refine tb1 (tw_gR_5 _ q g) ?_
  refine tb2 (tw_dL _ q g (by decide) _ ) fun x19 => ?_
  exact hk32 _ _ _  _
def t_X6_closeMonth_b159 (E : zE) (k32 : Int32 → Int64 → Int32 → twS → Option (Int32 × twS)) (p1 : Int32) (p2 : Int64) (p4 : Int32) (s1 : Int32) (s2 : Int32) (s3 : Int64) (s : twS) : Option (Int32 × twS) :=
  bnd2 (t_X6_set E s1 s2 s3 s) fun x4 s2_ =>
  t_X6_closeMonth_b162 E k32 p1 p2 p4 s2_
theorem ts_X6_closeMonth_b159 (E : zE) (q : Nat) (g : zH) {K32 : Nat → Int32 → Int64 → Int32 → zH → Option (Int32 × zH)} {k32 : Int32 → Int64 → Int32 → twS → Option (Int32 × twS)} (hk32 : ∀ (p1 : Int32) (p2 : Int64) (p4 : Int32) (s : twS), K32 q p1 p2 p4 (tw s q g) = (k32 p1 p2 p4 s).map (zem q g)) (p1 : Int32) (p2 : Int64) (p4 : Int32) (s1 : Int32) (s2 : Int32) (s3 : Int64) (s : twS) : f_X6_closeMonth_b159 E K32 q p1 p2 p4 q s1 s2 s3 (tw s q g) = (t_X6_closeMonth_b159 E k32 p1 p2 p4 s1 s2 s3 s).map (zem q g) := by
  unfold f_X6_closeMonth_b159 t_X6_closeMonth_b159
  refine tb1 (tw_cko _ q g) ?_
  refine tb5 (ts_X6_set E q g  _ _ _  _) fun x4 s2_ => ?_
  exact ts_X6_closeMonth_b162 E q g hk32  _ _ _  _
def t_X6_closeMonth_l84 (E : zE) (k32 : Int32 → Int64 → Int32 → twS → Option (Int32 × twS)) : Nat → Int32 → Int64 → Int32 → Int32 → twS → Option (Int32 × twS)
  | 0, _, _, _, _, _ => none
  | n + 1, p1, p2, p4, p7, s =>
    if (7 : Int32) ≤ p7 then (
      bnd2 (t_X6_isActive E p4 s) fun x5 s3_ =>
      if x5 = 0 then (
        t_X6_closeMonth_b162 E k32 p1 p2 p4 s3_
      ) else (
        bnd2 (t_X6_of E p4 (4 : Int32) s3_) fun x10 s8_ =>
        if x10 ≤ (0 : Int64) then (
          t_X6_closeMonth_b159 E k32 p1 p2 p4 p4 (6 : Int32) (0 : Int64) s8_
        ) else (
          bnd2 (t_X6_of E p4 (6 : Int32) s8_) fun x15 s13_ =>
          t_X6_closeMonth_b159 E k32 p1 p2 p4 p4 (6 : Int32) (x15 + (1 : Int64)) s13_
        )
      )
    ) else (
      bnd2 (t_X6_invoiceRow E p4 p1 s) fun x21 s19_ =>
      (tdL s19_ 5 p7).bind fun x24 =>
      (tsL s19_ 1 (x21 + p7) x24).bind fun s26_ =>
      t_X6_closeMonth_l84 E k32 n p1 p2 p4 (p7 + 1) s26_
    )
theorem ts_X6_closeMonth_l84 (E : zE) (q : Nat) (g : zH) {K32 : Nat → Int32 → Int64 → Int32 → zH → Option (Int32 × zH)} {k32 : Int32 → Int64 → Int32 → twS → Option (Int32 × twS)} (hk32 : ∀ (p1 : Int32) (p2 : Int64) (p4 : Int32) (s : twS), K32 q p1 p2 p4 (tw s q g) = (k32 p1 p2 p4 s).map (zem q g)) : ∀ (n : Nat) (p1 : Int32) (p2 : Int64) (p4 : Int32) (p7 : Int32) (s : twS), f_X6_closeMonth_l84 E K32 n q p1 p2 p4 p7 (tw s q g) = (t_X6_closeMonth_l84 E k32 n p1 p2 p4 p7 s).map (zem q g) := by
  intro n
  induction n with
  | zero => intros; rfl
  | succ n ih =>
    intro p1 p2 p4 p7 s
    unfold f_X6_closeMonth_l84 t_X6_closeMonth_l84
    refine tb6 ?_ ?_
    · refine tb1 (tw_cko _ q g) ?_
      refine tb5 (ts_X6_isActive E q g  _  _) fun x5 s3_ => ?_
      refine tb6 ?_ ?_
      · exact ts_X6_closeMonth_b162 E q g hk32  _ _ _  _
      · refine tb1 (tw_cko _ q g) ?_
        refine tb5 (ts_X6_of E q g  _ _  _) fun x10 s8_ => ?_
        refine tb6 ?_ ?_
        · exact ts_X6_closeMonth_b159 E q g hk32  _ _ _ _ _ _  _
        · refine tb1 (tw_cko _ q g) ?_
          refine tb5 (ts_X6_of E q g  _ _  _) fun x15 s13_ => ?_
          exact ts_X6_closeMonth_b159 E q g hk32  _ _ _ _ _ _  _
    · refine tb1 (tw_gR_0 _ q g) ?_
      refine tb1 (tw_cko _ q g) ?_
      refine tb5 (ts_X6_invoiceRow E q g  _ _  _) fun x21 s19_ => ?_
      refine tb1 (tw_gR_5 _ q g) ?_
      refine tb2 (tw_dL _ q g (by decide) _ ) fun x24 => ?_
      refine tb4 (tw_sL _ q g (by decide) _ _ ) fun s26_ => ?_
      exact ih _ _ _ _  _
def t_X6_closeMonth_l32 (E : zE) : Nat → Int32 → Int64 → Int32 → twS → Option (Int32 × twS)
  | 0, _, _, _, _ => none
  | n + 1, p1, p2, p4, s =>
    (tdL s 1 (2 : Int32)).bind fun x3 =>
    if x3 ≤ (p4.toInt64) then (
      (tdL s 1 (11 : Int32)).bind fun x8 =>
      (tdL s 1 (7 : Int32)).bind fun x12 =>
      bnd2 (t_X6_rated E p2 x12 s) fun x16 s14_ =>
      (tsL s14_ 1 (11 : Int32) (x8 + x16)).bind fun s17_ =>
      t_X6_closeMonth_l228 E E.1 p1 (0 : Int32) s17_
    ) else (
      bnd2 (t_X6_salesNow E p4 (100 : Int32) s) fun x22 s20_ =>
      (tsL s20_ 1 (((1214 : Int32) + ((8 : Int32) * p1)) + p4) x22).bind fun s25_ =>
      bnd2 (t_X6_calculate E p4 x22 s25_) fun x30 s28_ =>
      t_X6_closeMonth_l84 E (t_X6_closeMonth_l32 E n) E.1 p1 p2 p4 (0 : Int32) s28_
    )
theorem ts_X6_closeMonth_l32 (E : zE) (q : Nat) (g : zH) : ∀ (n : Nat) (p1 : Int32) (p2 : Int64) (p4 : Int32) (s : twS), f_X6_closeMonth_l32 E n q p1 p2 p4 (tw s q g) = (t_X6_closeMonth_l32 E n p1 p2 p4 s).map (zem q g) := by
  intro n
  induction n with
  | zero => intros; rfl
  | succ n ih =>
    intro p1 p2 p4 s
    unfold f_X6_closeMonth_l32 t_X6_closeMonth_l32
    refine tb1 (tw_gR_0 _ q g) ?_
    refine tb2 (tw_dL _ q g (by decide) _ ) fun x3 => ?_
    refine tb6 ?_ ?_
    · refine tb1 (tw_gR_0 _ q g) ?_
      refine tb2 (tw_dL _ q g (by decide) _ ) fun x8 => ?_
      refine tb1 (tw_gR_0 _ q g) ?_
      refine tb2 (tw_dL _ q g (by decide) _ ) fun x12 => ?_
      refine tb5 (ts_X6_rated E q g  _ _  _) fun x16 s14_ => ?_
      refine tb4 (tw_sL _ q g (by decide) _ _ ) fun s17_ => ?_
      exact ts_X6_closeMonth_l228 E q g E.1 _ _  _
    · refine tb1 (tw_cko _ q g) ?_
      refine tb5 (ts_X6_salesNow E q g  _ _  _) fun x22 s20_ => ?_
      refine tb1 (tw_gR_0 _ q g) ?_
      refine tb4 (tw_sL _ q g (by decide) _ _ ) fun s25_ => ?_
      refine tb1 (tw_cko _ q g) ?_
      refine tb5 (ts_X6_calculate E q g  _ _  _) fun x30 s28_ => ?_
      exact ts_X6_closeMonth_l84 E q g ih E.1 _ _ _ _  _
def t_X6_closeMonth_b0 (E : zE) (s : twS) : Option (Int32 × twS) :=
  bnd2 (t_X6_isOver E (uSc s 2 (0 : Int32))) fun x6 s4_ =>
  bnd2 (t_X6_throwsIf E x6 (1 : Int32) s4_) fun x10 s8_ =>
  if x10 = 0 then (
    (tdL s8_ 1 (0 : Int32)).bind fun x14 =>
    t_X6_closeMonth_l32 E E.1 (x14.toInt32) (0 : Int64) (0 : Int32) s8_
  ) else (
    some ((0 : Int32), s8_)
  )
theorem ts_X6_closeMonth_b0 (E : zE) (q : Nat) (g : zH) (s : twS) : f_X6_closeMonth_b0 E q (tw s q g) = (t_X6_closeMonth_b0 E  s).map (zem q g) := by
  unfold f_X6_closeMonth_b0 t_X6_closeMonth_b0
  refine tb1 (tw_pI_2 _ q g _) ?_
  refine tb1 (tw_cko _ q g) ?_
  refine tb5 (ts_X6_isOver E q g   _) fun x6 s4_ => ?_
  refine tb1 (tw_cko _ q g) ?_
  refine tb5 (ts_X6_throwsIf E q g  _ _  _) fun x10 s8_ => ?_
  refine tb6 ?_ ?_
  · refine tb1 (tw_gR_0 _ q g) ?_
    refine tb2 (tw_dL _ q g (by decide) _ ) fun x14 => ?_
    exact ts_X6_closeMonth_l32 E q g E.1 _ _ _  _
  · rfl
def t_X6_closeMonth (E : zE) (s : twS) : Option (Int32 × twS) :=
  t_X6_closeMonth_b0 E s
theorem ts_X6_closeMonth (E : zE) (q : Nat) (g : zH) (s : twS) : f_X6_closeMonth E q (tw s q g) = (t_X6_closeMonth E  s).map (zem q g) := by
  unfold f_X6_closeMonth t_X6_closeMonth
  exact ts_X6_closeMonth_b0 E q g   _
def t_X6_invoice_b76 (E : zE) (s0 : Int64) (s : twS) : Option (Int64 × twS) :=
  some (s0, s)
theorem ts_X6_invoice_b76 (E : zE) (q : Nat) (g : zH) (s0 : Int64) (s : twS) : f_X6_invoice_b76 E s0 (tw s q g) = (t_X6_invoice_b76 E s0 s).map (zem q g) := by
  unfold f_X6_invoice_b76 t_X6_invoice_b76
  rfl
def t_X6_invoice_b59 (E : zE) (s : twS) : Option (Int64 × twS) :=
  t_X6_invoice_b76 E (0 : Int64) s
theorem ts_X6_invoice_b59 (E : zE) (q : Nat) (g : zH) (s : twS) : f_X6_invoice_b59 E  (tw s q g) = (t_X6_invoice_b59 E  s).map (zem q g) := by
  unfold f_X6_invoice_b59 t_X6_invoice_b59
  exact ts_X6_invoice_b76 E q g  _  _
def t_X6_invoice_b52 (E : zE) (p1 : Int32) (p2 : Int32) (p3 : Int32) (s1 : Int32) (s : twS) : Option (Int64 × twS) :=
  bnd2 (t_X6_throwsIf E s1 (2 : Int32) s) fun x4 s2_ =>
  if x4 = 0 then (
    bnd2 (t_X6_invoiceRow E p1 p2 s2_) fun x11 s9_ =>
    (tdL s9_ 1 (x11 + p3)).bind fun x12 =>
    t_X6_invoice_b76 E x12 s9_
  ) else (
    t_X6_invoice_b59 E s2_
  )
theorem ts_X6_invoice_b52 (E : zE) (q : Nat) (g : zH) (p1 : Int32) (p2 : Int32) (p3 : Int32) (s1 : Int32) (s : twS) : f_X6_invoice_b52 E q p1 p2 p3 q s1 (tw s q g) = (t_X6_invoice_b52 E p1 p2 p3 s1 s).map (zem q g) := by
  unfold f_X6_invoice_b52 t_X6_invoice_b52
  refine tb1 (tw_cko _ q g) ?_
  refine tb5 (ts_X6_throwsIf E q g  _ _  _) fun x4 s2_ => ?_
  refine tb6 ?_ ?_
  · refine tb1 (tw_gR_0 _ q g) ?_
    refine tb1 (tw_cko _ q g) ?_
    refine tb5 (ts_X6_invoiceRow E q g  _ _  _) fun x11 s9_ => ?_
    refine tb2 (tw_dL _ q g (by decide) _ ) fun x12 => ?_
    exact ts_X6_invoice_b76 E q g  _  _
  · exact ts_X6_invoice_b59 E q g   _
def t_X6_invoice_b47 (E : zE) (p1 : Int32) (p2 : Int32) (p3 : Int32) (s : twS) : Option (Int64 × twS) :=
  t_X6_invoice_b52 E p1 p2 p3 (1 : Int32) s
theorem ts_X6_invoice_b47 (E : zE) (q : Nat) (g : zH) (p1 : Int32) (p2 : Int32) (p3 : Int32) (s : twS) : f_X6_invoice_b47 E q p1 p2 p3 q (tw s q g) = (t_X6_invoice_b47 E p1 p2 p3 s).map (zem q g) := by
  unfold f_X6_invoice_b47 t_X6_invoice_b47
  exact ts_X6_invoice_b52 E q g  _ _ _ _  _
def t_X6_invoice_b19 (E : zE) (p1 : Int32) (p2 : Int32) (p3 : Int32) (s1 : Int32) (s : twS) : Option (Int64 × twS) :=
  bnd2 (t_X6_throwsIf E s1 (1 : Int32) s) fun x4 s2_ =>
  if x4 = 0 then (
    bnd2 (t_X6_isClosed E p2 s2_) fun x9 s7_ =>
    if x9 = 0 then (
      t_X6_invoice_b47 E p1 p2 p3 s7_
    ) else (
      bnd2 (t_X6_inRange E (p3.toInt64) (0 : Int64) (6 : Int64) s7_) fun x13 s11_ =>
      if x13 = 0 then (
        t_X6_invoice_b47 E p1 p2 p3 s11_
      ) else (
        t_X6_invoice_b52 E p1 p2 p3 (0 : Int32) s11_
      )
    )
  ) else (
    t_X6_invoice_b59 E s2_
  )
theorem ts_X6_invoice_b19 (E : zE) (q : Nat) (g : zH) (p1 : Int32) (p2 : Int32) (p3 : Int32) (s1 : Int32) (s : twS) : f_X6_invoice_b19 E q p1 p2 p3 q s1 (tw s q g) = (t_X6_invoice_b19 E p1 p2 p3 s1 s).map (zem q g) := by
  unfold f_X6_invoice_b19 t_X6_invoice_b19
  refine tb1 (tw_cko _ q g) ?_
  refine tb5 (ts_X6_throwsIf E q g  _ _  _) fun x4 s2_ => ?_
  refine tb6 ?_ ?_
  · refine tb1 (tw_cko _ q g) ?_
    refine tb5 (ts_X6_isClosed E q g  _  _) fun x9 s7_ => ?_
    refine tb6 ?_ ?_
    · exact ts_X6_invoice_b47 E q g  _ _ _  _
    · refine tb5 (ts_X6_inRange E q g  _ _ _  _) fun x13 s11_ => ?_
      refine tb6 ?_ ?_
      · exact ts_X6_invoice_b47 E q g  _ _ _  _
      · exact ts_X6_invoice_b52 E q g  _ _ _ _  _
  · exact ts_X6_invoice_b59 E q g   _
def t_X6_invoice_b0 (E : zE) (p1 : Int32) (p2 : Int32) (p3 : Int32) (s : twS) : Option (Int64 × twS) :=
  bnd2 (t_X6_isFranchisee E p1 (uSc s 2 (0 : Int32))) fun x6 s4_ =>
  if x6 = 0 then (
    t_X6_invoice_b19 E p1 p2 p3 (1 : Int32) s4_
  ) else (
    t_X6_invoice_b19 E p1 p2 p3 (0 : Int32) s4_
  )
theorem ts_X6_invoice_b0 (E : zE) (q : Nat) (g : zH) (p1 : Int32) (p2 : Int32) (p3 : Int32) (s : twS) : f_X6_invoice_b0 E q p1 p2 p3 (tw s q g) = (t_X6_invoice_b0 E p1 p2 p3 s).map (zem q g) := by
  unfold f_X6_invoice_b0 t_X6_invoice_b0
  refine tb1 (tw_pI_2 _ q g _) ?_
  refine tb1 (tw_cko _ q g) ?_
  refine tb5 (ts_X6_isFranchisee E q g  _  _) fun x6 s4_ => ?_
  refine tb6 ?_ ?_
  · exact ts_X6_invoice_b19 E q g  _ _ _ _  _
  · exact ts_X6_invoice_b19 E q g  _ _ _ _  _
def t_X6_invoice (E : zE) (p1 : Int32) (p2 : Int32) (p3 : Int32) (s : twS) : Option (Int64 × twS) :=
  t_X6_invoice_b0 E p1 p2 p3 s
theorem ts_X6_invoice (E : zE) (q : Nat) (g : zH) (p1 : Int32) (p2 : Int32) (p3 : Int32) (s : twS) : f_X6_invoice E q p1 p2 p3 (tw s q g) = (t_X6_invoice E p1 p2 p3 s).map (zem q g) := by
  unfold f_X6_invoice t_X6_invoice
  exact ts_X6_invoice_b0 E q g  _ _ _  _
def t_X6_predictDue_b51 (E : zE) (s : twS) : Option (Int64 × twS) :=
  some ((0 : Int64), s)
theorem ts_X6_predictDue_b51 (E : zE) (q : Nat) (g : zH) (s : twS) : f_X6_predictDue_b51 E  (tw s q g) = (t_X6_predictDue_b51 E  s).map (zem q g) := by
  unfold f_X6_predictDue_b51 t_X6_predictDue_b51
  rfl
def t_X6_predictDue_b44 (E : zE) (p1 : Int32) (p2 : Int32) (s1 : Int32) (s : twS) : Option (Int64 × twS) :=
  bnd2 (t_X6_throwsIf E s1 (2 : Int32) s) fun x4 s2_ =>
  if x4 = 0 then (
    bnd2 (t_X6_salesNow E p1 p2 s2_) fun x9 s7_ =>
    bnd2 (t_X6_calculate E p1 x9 s7_) fun x13 s11_ =>
    (tdL s11_ 5 (5 : Int32)).bind fun x16 =>
    some (x16, s11_)
  ) else (
    t_X6_predictDue_b51 E s2_
  )
theorem ts_X6_predictDue_b44 (E : zE) (q : Nat) (g : zH) (p1 : Int32) (p2 : Int32) (s1 : Int32) (s : twS) : f_X6_predictDue_b44 E q p1 p2 q s1 (tw s q g) = (t_X6_predictDue_b44 E p1 p2 s1 s).map (zem q g) := by
  unfold f_X6_predictDue_b44 t_X6_predictDue_b44
  refine tb1 (tw_cko _ q g) ?_
  refine tb5 (ts_X6_throwsIf E q g  _ _  _) fun x4 s2_ => ?_
  refine tb6 ?_ ?_
  · refine tb1 (tw_cko _ q g) ?_
    refine tb5 (ts_X6_salesNow E q g  _ _  _) fun x9 s7_ => ?_
    refine tb1 (tw_cko _ q g) ?_
    refine tb5 (ts_X6_calculate E q g  _ _  _) fun x13 s11_ => ?_
    refine tb1 (tw_gR_5 _ q g) ?_
    refine tb2 (tw_dL _ q g (by decide) _ ) fun x16 => ?_
    rfl
  · exact ts_X6_predictDue_b51 E q g   _
def t_X6_predictDue_b19 (E : zE) (p1 : Int32) (p2 : Int32) (s1 : Int32) (s : twS) : Option (Int64 × twS) :=
  bnd2 (t_X6_throwsIf E s1 (1 : Int32) s) fun x4 s2_ =>
  if x4 = 0 then (
    bnd2 (t_X6_inRange E (p2.toInt64) (0 : Int64) (300 : Int64) s2_) fun x8 s6_ =>
    if x8 = 0 then (
      t_X6_predictDue_b44 E p1 p2 (1 : Int32) s6_
    ) else (
      t_X6_predictDue_b44 E p1 p2 (0 : Int32) s6_
    )
  ) else (
    t_X6_predictDue_b51 E s2_
  )
theorem ts_X6_predictDue_b19 (E : zE) (q : Nat) (g : zH) (p1 : Int32) (p2 : Int32) (s1 : Int32) (s : twS) : f_X6_predictDue_b19 E q p1 p2 q s1 (tw s q g) = (t_X6_predictDue_b19 E p1 p2 s1 s).map (zem q g) := by
  unfold f_X6_predictDue_b19 t_X6_predictDue_b19
  refine tb1 (tw_cko _ q g) ?_
  refine tb5 (ts_X6_throwsIf E q g  _ _  _) fun x4 s2_ => ?_
  refine tb6 ?_ ?_
  · refine tb5 (ts_X6_inRange E q g  _ _ _  _) fun x8 s6_ => ?_
    refine tb6 ?_ ?_
    · exact ts_X6_predictDue_b44 E q g  _ _ _  _
    · exact ts_X6_predictDue_b44 E q g  _ _ _  _
  · exact ts_X6_predictDue_b51 E q g   _
def t_X6_predictDue_b0 (E : zE) (p1 : Int32) (p2 : Int32) (s : twS) : Option (Int64 × twS) :=
  bnd2 (t_X6_isFranchisee E p1 (uSc s 2 (0 : Int32))) fun x6 s4_ =>
  if x6 = 0 then (
    t_X6_predictDue_b19 E p1 p2 (1 : Int32) s4_
  ) else (
    t_X6_predictDue_b19 E p1 p2 (0 : Int32) s4_
  )
theorem ts_X6_predictDue_b0 (E : zE) (q : Nat) (g : zH) (p1 : Int32) (p2 : Int32) (s : twS) : f_X6_predictDue_b0 E q p1 p2 (tw s q g) = (t_X6_predictDue_b0 E p1 p2 s).map (zem q g) := by
  unfold f_X6_predictDue_b0 t_X6_predictDue_b0
  refine tb1 (tw_pI_2 _ q g _) ?_
  refine tb1 (tw_cko _ q g) ?_
  refine tb5 (ts_X6_isFranchisee E q g  _  _) fun x6 s4_ => ?_
  refine tb6 ?_ ?_
  · exact ts_X6_predictDue_b19 E q g  _ _ _  _
  · exact ts_X6_predictDue_b19 E q g  _ _ _  _
def t_X6_predictDue (E : zE) (p1 : Int32) (p2 : Int32) (s : twS) : Option (Int64 × twS) :=
  t_X6_predictDue_b0 E p1 p2 s
theorem ts_X6_predictDue (E : zE) (q : Nat) (g : zH) (p1 : Int32) (p2 : Int32) (s : twS) : f_X6_predictDue E q p1 p2 (tw s q g) = (t_X6_predictDue E p1 p2 s).map (zem q g) := by
  unfold f_X6_predictDue t_X6_predictDue
  exact ts_X6_predictDue_b0 E q g  _ _  _
def t_X6_balance_b36 (E : zE) (s0 : Int64) (s : twS) : Option (Int64 × twS) :=
  some (s0, s)
theorem ts_X6_balance_b36 (E : zE) (q : Nat) (g : zH) (s0 : Int64) (s : twS) : f_X6_balance_b36 E s0 (tw s q g) = (t_X6_balance_b36 E s0 s).map (zem q g) := by
  unfold f_X6_balance_b36 t_X6_balance_b36
  rfl
def t_X6_balance_b19 (E : zE) (p1 : Int32) (s1 : Int32) (s : twS) : Option (Int64 × twS) :=
  bnd2 (t_X6_throwsIf E s1 (1 : Int32) s) fun x4 s2_ =>
  if x4 = 0 then (
    bnd2 (t_X6_of E p1 (4 : Int32) s2_) fun x9 s7_ =>
    t_X6_balance_b36 E x9 s7_
  ) else (
    t_X6_balance_b36 E (0 : Int64) s2_
  )
theorem ts_X6_balance_b19 (E : zE) (q : Nat) (g : zH) (p1 : Int32) (s1 : Int32) (s : twS) : f_X6_balance_b19 E q p1 q s1 (tw s q g) = (t_X6_balance_b19 E p1 s1 s).map (zem q g) := by
  unfold f_X6_balance_b19 t_X6_balance_b19
  refine tb1 (tw_cko _ q g) ?_
  refine tb5 (ts_X6_throwsIf E q g  _ _  _) fun x4 s2_ => ?_
  refine tb6 ?_ ?_
  · refine tb1 (tw_cko _ q g) ?_
    refine tb5 (ts_X6_of E q g  _ _  _) fun x9 s7_ => ?_
    exact ts_X6_balance_b36 E q g  _  _
  · exact ts_X6_balance_b36 E q g  _  _
def t_X6_balance_b0 (E : zE) (p1 : Int32) (s : twS) : Option (Int64 × twS) :=
  bnd2 (t_X6_isFranchisee E p1 (uSc s 2 (0 : Int32))) fun x6 s4_ =>
  if x6 = 0 then (
    t_X6_balance_b19 E p1 (1 : Int32) s4_
  ) else (
    t_X6_balance_b19 E p1 (0 : Int32) s4_
  )
theorem ts_X6_balance_b0 (E : zE) (q : Nat) (g : zH) (p1 : Int32) (s : twS) : f_X6_balance_b0 E q p1 (tw s q g) = (t_X6_balance_b0 E p1 s).map (zem q g) := by
  unfold f_X6_balance_b0 t_X6_balance_b0
  refine tb1 (tw_pI_2 _ q g _) ?_
  refine tb1 (tw_cko _ q g) ?_
  refine tb5 (ts_X6_isFranchisee E q g  _  _) fun x6 s4_ => ?_
  refine tb6 ?_ ?_
  · exact ts_X6_balance_b19 E q g  _ _  _
  · exact ts_X6_balance_b19 E q g  _ _  _
def t_X6_balance (E : zE) (p1 : Int32) (s : twS) : Option (Int64 × twS) :=
  t_X6_balance_b0 E p1 s
theorem ts_X6_balance (E : zE) (q : Nat) (g : zH) (p1 : Int32) (s : twS) : f_X6_balance E q p1 (tw s q g) = (t_X6_balance E p1 s).map (zem q g) := by
  unfold f_X6_balance t_X6_balance
  exact ts_X6_balance_b0 E q g  _  _
def t_X6_totalOwed_b43 (E : zE) (k9 : Int64 → Int32 → twS → Option (Int64 × twS)) (p3 : Int32) (s0 : Int64) (s1 : Int64) (s : twS) : Option (Int64 × twS) :=
  k9 (s0 + s1) (p3 + 1) s
theorem ts_X6_totalOwed_b43 (E : zE) (q : Nat) (g : zH) {K9 : Nat → Int64 → Int32 → zH → Option (Int64 × zH)} {k9 : Int64 → Int32 → twS → Option (Int64 × twS)} (hk9 : ∀ (p1 : Int64) (p3 : Int32) (s : twS), K9 q p1 p3 (tw s q g) = (k9 p1 p3 s).map (zem q g)) (p3 : Int32) (s0 : Int64) (s1 : Int64) (s : twS) : f_X6_totalOwed_b43 E K9 q p3 s0 s1 (tw s q g) = (t_X6_totalOwed_b43 E k9 p3 s0 s1 s).map (zem q g) := by
  unfold f_X6_totalOwed_b43 t_X6_totalOwed_b43
  exact hk9 _ _  _
def t_X6_totalOwed_l9 (E : zE) : Nat → Int64 → Int32 → twS → Option (Int64 × twS)
  | 0, _, _, _ => none
  | n + 1, p1, p3, s =>
    (tdL s 1 (2 : Int32)).bind fun x3 =>
    if x3 ≤ (p3.toInt64) then (
      some (p1, s)
    ) else (
      bnd2 (t_X6_of E p3 (4 : Int32) s) fun x9 s7_ =>
      if x9 ≤ (0 : Int64) then (
        t_X6_totalOwed_b43 E (t_X6_totalOwed_l9 E n) p3 p1 (0 : Int64) s7_
      ) else (
        bnd2 (t_X6_of E p3 (4 : Int32) s7_) fun x14 s12_ =>
        t_X6_totalOwed_b43 E (t_X6_totalOwed_l9 E n) p3 p1 x14 s12_
      )
    )
theorem ts_X6_totalOwed_l9 (E : zE) (q : Nat) (g : zH) : ∀ (n : Nat) (p1 : Int64) (p3 : Int32) (s : twS), f_X6_totalOwed_l9 E n q p1 p3 (tw s q g) = (t_X6_totalOwed_l9 E n p1 p3 s).map (zem q g) := by
  intro n
  induction n with
  | zero => intros; rfl
  | succ n ih =>
    intro p1 p3 s
    unfold f_X6_totalOwed_l9 t_X6_totalOwed_l9
    refine tb1 (tw_gR_0 _ q g) ?_
    refine tb2 (tw_dL _ q g (by decide) _ ) fun x3 => ?_
    refine tb6 ?_ ?_
    · rfl
    · refine tb1 (tw_cko _ q g) ?_
      refine tb5 (ts_X6_of E q g  _ _  _) fun x9 s7_ => ?_
      refine tb6 ?_ ?_
      · exact ts_X6_totalOwed_b43 E q g ih  _ _ _  _
      · refine tb1 (tw_cko _ q g) ?_
        refine tb5 (ts_X6_of E q g  _ _  _) fun x14 s12_ => ?_
        exact ts_X6_totalOwed_b43 E q g ih  _ _ _  _
def t_X6_totalOwed_b0 (E : zE) (s : twS) : Option (Int64 × twS) :=
  t_X6_totalOwed_l9 E E.1 (0 : Int64) (0 : Int32) (uSc s 2 (0 : Int32))
theorem ts_X6_totalOwed_b0 (E : zE) (q : Nat) (g : zH) (s : twS) : f_X6_totalOwed_b0 E q (tw s q g) = (t_X6_totalOwed_b0 E  s).map (zem q g) := by
  unfold f_X6_totalOwed_b0 t_X6_totalOwed_b0
  refine tb1 (tw_pI_2 _ q g _) ?_
  exact ts_X6_totalOwed_l9 E q g E.1 _ _  _
def t_X6_totalOwed (E : zE) (s : twS) : Option (Int64 × twS) :=
  t_X6_totalOwed_b0 E s
theorem ts_X6_totalOwed (E : zE) (q : Nat) (g : zH) (s : twS) : f_X6_totalOwed E q (tw s q g) = (t_X6_totalOwed E  s).map (zem q g) := by
  unfold f_X6_totalOwed t_X6_totalOwed
  exact ts_X6_totalOwed_b0 E q g   _
def t_X6_pay_b50 (E : zE) (s : twS) : Option (Int64 × twS) :=
  some ((0 : Int64), s)
theorem ts_X6_pay_b50 (E : zE) (q : Nat) (g : zH) (s : twS) : f_X6_pay_b50 E  (tw s q g) = (t_X6_pay_b50 E  s).map (zem q g) := by
  unfold f_X6_pay_b50 t_X6_pay_b50
  rfl
def t_X6_pay_b43 (E : zE) (p1 : Int32) (p2 : Int64) (s1 : Int32) (s : twS) : Option (Int64 × twS) :=
  bnd2 (t_X6_throwsIf E s1 (2 : Int32) s) fun x4 s2_ =>
  if x4 = 0 then (
    bnd2 (t_X6_add E p1 (4 : Int32) (-p2) s2_) fun x9 s7_ =>
    bnd2 (t_X6_of E p1 (4 : Int32) s7_) fun x13 s11_ =>
    some (x13, s11_)
  ) else (
    t_X6_pay_b50 E s2_
  )
theorem ts_X6_pay_b43 (E : zE) (q : Nat) (g : zH) (p1 : Int32) (p2 : Int64) (s1 : Int32) (s : twS) : f_X6_pay_b43 E q p1 p2 q s1 (tw s q g) = (t_X6_pay_b43 E p1 p2 s1 s).map (zem q g) := by
  unfold f_X6_pay_b43 t_X6_pay_b43
  refine tb1 (tw_cko _ q g) ?_
  refine tb5 (ts_X6_throwsIf E q g  _ _  _) fun x4 s2_ => ?_
  refine tb6 ?_ ?_
  · refine tb1 (tw_cko _ q g) ?_
    refine tb5 (ts_X6_add E q g  _ _ _  _) fun x9 s7_ => ?_
    refine tb1 (tw_cko _ q g) ?_
    refine tb5 (ts_X6_of E q g  _ _  _) fun x13 s11_ => ?_
    rfl
  · exact ts_X6_pay_b50 E q g   _
def t_X6_pay_b19 (E : zE) (p1 : Int32) (p2 : Int64) (s1 : Int32) (s : twS) : Option (Int64 × twS) :=
  bnd2 (t_X6_throwsIf E s1 (1 : Int32) s) fun x4 s2_ =>
  if x4 = 0 then (
    bnd2 (t_X6_inRange E p2 (1 : Int64) (1000000000 : Int64) s2_) fun x8 s6_ =>
    if x8 = 0 then (
      t_X6_pay_b43 E p1 p2 (1 : Int32) s6_
    ) else (
      t_X6_pay_b43 E p1 p2 (0 : Int32) s6_
    )
  ) else (
    t_X6_pay_b50 E s2_
  )
theorem ts_X6_pay_b19 (E : zE) (q : Nat) (g : zH) (p1 : Int32) (p2 : Int64) (s1 : Int32) (s : twS) : f_X6_pay_b19 E q p1 p2 q s1 (tw s q g) = (t_X6_pay_b19 E p1 p2 s1 s).map (zem q g) := by
  unfold f_X6_pay_b19 t_X6_pay_b19
  refine tb1 (tw_cko _ q g) ?_
  refine tb5 (ts_X6_throwsIf E q g  _ _  _) fun x4 s2_ => ?_
  refine tb6 ?_ ?_
  · refine tb5 (ts_X6_inRange E q g  _ _ _  _) fun x8 s6_ => ?_
    refine tb6 ?_ ?_
    · exact ts_X6_pay_b43 E q g  _ _ _  _
    · exact ts_X6_pay_b43 E q g  _ _ _  _
  · exact ts_X6_pay_b50 E q g   _
def t_X6_pay_b0 (E : zE) (p1 : Int32) (p2 : Int64) (s : twS) : Option (Int64 × twS) :=
  bnd2 (t_X6_isFranchisee E p1 (uSc s 2 (0 : Int32))) fun x6 s4_ =>
  if x6 = 0 then (
    t_X6_pay_b19 E p1 p2 (1 : Int32) s4_
  ) else (
    t_X6_pay_b19 E p1 p2 (0 : Int32) s4_
  )
theorem ts_X6_pay_b0 (E : zE) (q : Nat) (g : zH) (p1 : Int32) (p2 : Int64) (s : twS) : f_X6_pay_b0 E q p1 p2 (tw s q g) = (t_X6_pay_b0 E p1 p2 s).map (zem q g) := by
  unfold f_X6_pay_b0 t_X6_pay_b0
  refine tb1 (tw_pI_2 _ q g _) ?_
  refine tb1 (tw_cko _ q g) ?_
  refine tb5 (ts_X6_isFranchisee E q g  _  _) fun x6 s4_ => ?_
  refine tb6 ?_ ?_
  · exact ts_X6_pay_b19 E q g  _ _ _  _
  · exact ts_X6_pay_b19 E q g  _ _ _  _
