/-! sides of cells: perimeter and border; distances to a territory-/
set_option maxRecDepth 100000
/-- the neighbour on a side; 900 for none -/
def nbr (c side : Nat) : Nat := match side with
  | 0 => if c % 30 < 29 then c + 1 else 900
  | 1 => if 0 < c % 30 then c - 1 else 900
  | 2 => if c / 30 < 29 then c + 30 else 900
  | _ => if 0 < c / 30 then c - 30 else 900
/-- a cell, and its owner -/
def ow (s : cT) (o d : Nat) (f : Int32) : Prop := d < 900 ∧ s.2.1 (o + 16) d = f
def enb (d : Nat) : Int32 := if d = 900 then -1 else Int32.ofNat d
theorem nbr_lt {c side : Nat} (hc : c < 900) : nbr c side = 900 ∨ nbr c side < 900 := by
  unfold nbr
  split <;> split <;> omega
theorem i32_addm1 {a : Nat} (ha : a < 2 ^ 30) : Int32.ofNat a + (-1 : Int32) = if a = 0 then (-1 : Int32) else Int32.ofNat (a - 1) := by
  by_cases h : a = 0
  · rw [if_pos h, h]; rfl
  · rw [if_neg h]
    have : a = (a - 1) + 1 := by omega
    rw [← Int32.toInt_inj, Int32.toInt_add, i32_toInt (by omega), i32_toInt (by omega)]
    show ((a : Int) + (-1)).bmod (2 ^ 32) = _
    rw [Int.bmod_eq_of_le (by omega) (by omega)]
    omega
theorem i32_subm1 {a : Nat} (ha : a < 2 ^ 30) : Int32.ofNat a - (1 : Int32) = if a = 0 then (-1 : Int32) else Int32.ofNat (a - 1) := by
  rw [← i32_addm1 ha]
  rw [← Int32.toInt_inj, Int32.toInt_add, Int32.toInt_sub, i32_toInt (by omega)]
  rfl
theorem inF_m1 (n : Nat) : ¬ inF (-1 : Int32) n := by
  unfold inF
  have e : (-1 : Int32).toInt = -1 := by decide
  rw [e]
  omega
section LC
variable {E : zE} {N : iN} {s : cT} {g : zH}
theorem x_nbr {c side : Nat} (hc : c < 900) (hs : side < 4) : c_X5_neighbour E N (Int32.ofNat c) (Int32.ofNat side) s g = some (enb (nbr c side), (s, g)) := by
  have cx : c % 30 < 30 := by omega
  have cy : c / 30 < 30 := by omega
  have kt : ∀ (x y dy : Int32), inF x 30 → inF (y + dy) 30 → c_X5_neighbour_b47 E N x y dy s g = some (30 * (y + dy) + x, (s, g)) := fun x y dy h1 h2 => by
    unfold c_X5_neighbour_b47 c_X5_neighbour_b81 c_X5_neighbour_b82
    rw [bi_of inF_30, bi_of inF_30, bi_t h1, if_neg (by decide), bi_t h2, if_neg (by decide)]
    rfl
  have kf : ∀ (x y dy : Int32), ¬ (inF x 30 ∧ inF (y + dy) 30) → c_X5_neighbour_b47 E N x y dy s g = some ((-1 : Int32), (s, g)) := fun x y dy hn => by
    unfold c_X5_neighbour_b47 c_X5_neighbour_b81 c_X5_neighbour_b82
    rw [bi_of inF_30, bi_of inF_30]
    by_cases h1 : inF x 30
    · rw [bi_t h1, if_neg (by decide), bi_f (fun k => hn ⟨h1, k⟩), if_pos rfl]
    · rw [bi_f h1, if_pos rfl]
  have p30 : ∀ a b : Nat, (30 : Int32) * Int32.ofNat a + Int32.ofNat b = Int32.ofNat (30 * a + b) := fun a b => by
    show Int32.ofNat 30 * Int32.ofNat a + Int32.ofNat b = _
    rw [← Int32.ofNat_mul, ← Int32.ofNat_add]
  have z0 : ∀ a : Nat, Int32.ofNat a + (0 : Int32) = Int32.ofNat a := fun a => (Int32.ofNat_add a 0).symm
  unfold c_X5_neighbour c_X5_neighbour_b0 c_X5_neighbour_b22
  rw [x_col (by omega), b2_some]
  rcases (show side = 0 ∨ side = 1 ∨ side = 2 ∨ side = 3 by omega) with rfl | rfl | rfl | rfl
  · rw [if_pos (show Int32.ofNat 0 = (0 : Int32) from rfl), x_row (by omega), b2_some, if_neg (by decide), if_neg (by decide)]
    show c_X5_neighbour_b47 E N (Int32.ofNat (c % 30) + 1) (Int32.ofNat (c / 30)) 0 s g = some ((if (if c % 30 < 29 then c + 1 else 900) = 900 then (-1 : Int32) else Int32.ofNat (if c % 30 < 29 then c + 1 else 900)), (s, g))
    rw [i32_s]
    by_cases q : c % 30 < 29
    · rw [kt _ _ _ ((inF_n (by omega)).mpr (by omega)) (by rw [z0]; exact (inF_n (by omega)).mpr (by omega)), z0, p30, if_pos q, if_neg (by omega), show 30 * (c / 30) + (c % 30 + 1) = c + 1 by omega]
    · rw [kf _ _ _ (fun h => by have := (inF_n (by omega)).mp h.1; omega), if_neg q, if_pos rfl]
  · rw [if_neg (by decide), if_pos (show Int32.ofNat 1 = (1 : Int32) from rfl), x_row (by omega), b2_some, if_neg (by decide), if_neg (by decide)]
    show c_X5_neighbour_b47 E N (Int32.ofNat (c % 30) + (-1)) (Int32.ofNat (c / 30)) 0 s g = some ((if (if 0 < c % 30 then c - 1 else 900) = 900 then (-1 : Int32) else Int32.ofNat (if 0 < c % 30 then c - 1 else 900)), (s, g))
    rw [i32_addm1 (by omega)]
    by_cases q : c % 30 = 0
    · rw [if_pos q, kf _ _ _ (fun h => inF_m1 _ h.1), if_neg (show ¬ 0 < c % 30 by omega), if_pos rfl]
    · rw [if_neg q, kt _ _ _ ((inF_n (by omega)).mpr (by omega)) (by rw [z0]; exact (inF_n (by omega)).mpr (by omega)), z0, p30, if_pos (show 0 < c % 30 by omega), if_neg (by omega), show 30 * (c / 30) + (c % 30 - 1) = c - 1 by omega]
  · rw [if_neg (by decide), if_neg (by decide), x_row (by omega), b2_some, if_pos (show Int32.ofNat 2 = (2 : Int32) from rfl)]
    show c_X5_neighbour_b47 E N (Int32.ofNat (c % 30) + 0) (Int32.ofNat (c / 30)) 1 s g = some ((if (if c / 30 < 29 then c + 30 else 900) = 900 then (-1 : Int32) else Int32.ofNat (if c / 30 < 29 then c + 30 else 900)), (s, g))
    rw [z0]
    by_cases q : c / 30 < 29
    · rw [kt _ _ _ ((inF_n (by omega)).mpr (by omega)) (by rw [i32_s]; exact (inF_n (by omega)).mpr (by omega)), i32_s, p30, if_pos q, if_neg (by omega), show 30 * (c / 30 + 1) + c % 30 = c + 30 by omega]
    · rw [kf _ _ _ (fun h => by rw [i32_s] at h; have := (inF_n (by omega)).mp h.2; omega), if_neg q, if_pos rfl]
  · rw [if_neg (by decide), if_neg (by decide), x_row (by omega), b2_some, if_neg (by decide), if_pos (show Int32.ofNat 3 = (3 : Int32) from rfl)]
    show c_X5_neighbour_b47 E N (Int32.ofNat (c % 30) + 0) (Int32.ofNat (c / 30)) (-1) s g = some ((if (if 0 < c / 30 then c - 30 else 900) = 900 then (-1 : Int32) else Int32.ofNat (if 0 < c / 30 then c - 30 else 900)), (s, g))
    rw [z0]
    by_cases q : c / 30 = 0
    · rw [kf _ _ _ (fun h => by rw [i32_addm1 (by omega), if_pos q] at h; exact inF_m1 _ h.2), if_neg (show ¬ 0 < c / 30 by omega), if_pos rfl]
    · rw [kt _ _ _ ((inF_n (by omega)).mpr (by omega)) (by rw [i32_addm1 (by omega), if_neg q]; exact (inF_n (by omega)).mpr (by omega)), i32_addm1 (by omega), if_neg q, p30, if_pos (show 0 < c / 30 by omega), if_neg (by omega), show 30 * (c / 30 - 1) + c % 30 = c - 30 by omega]
end LC
section LTT
variable {E : zE} {t : twS} {s : cT} {o nf no mo : Nat}
theorem y_owns0 (h : RB s o nf no mo t.1) {x y : Nat} (hx : x < 30) (hy : y < 30) (f : Int32) : t_X6_owns E f (Int32.ofNat x) (Int32.ofNat y) t = some (bi (ow s o (30 * y + x) f), t) := by
  unfold t_X6_owns t_X6_owns_b0 t_X6_owns_b22 t_X6_owns_b23
  rw [y_isCell, b2_some, bi_t ⟨(inF_n (by omega)).mpr hx, (inF_n (by omega)).mpr hy⟩, if_neg (by decide), y_ownerOf hx hy, b2_some, r_cel h (by omega), i32_64_32]
  by_cases q : s.2.1 (o + 16) (30 * y + x) = f
  · rw [if_pos q, bi_t ⟨by omega, q⟩]; rfl
  · rw [if_neg q, bi_f (fun k => q k.2)]; rfl
theorem y_ownsn {x y : Int32} (hn : ¬ isP x y) (f : Int32) : t_X6_owns E f x y t = some (0, t) := by
  unfold t_X6_owns t_X6_owns_b0 t_X6_owns_b22 t_X6_owns_b23
  rw [y_isCell, b2_some, bi_f hn, if_pos rfl]; rfl
theorem y_owns (h : RB s o nf no mo t.1) {c side : Nat} (hc : c < 900) (hs : side < 4) (f : Int32) : t_X6_owns E f (match side with | 0 => Int32.ofNat (c % 30) + 1 | 1 => Int32.ofNat (c % 30) - 1 | _ => Int32.ofNat (c % 30)) (match side with | 2 => Int32.ofNat (c / 30) + 1 | 3 => Int32.ofNat (c / 30) - 1 | _ => Int32.ofNat (c / 30)) t = some (bi (ow s o (nbr c side) f), t) := by
  have cx : c % 30 < 30 := by omega
  have cy : c / 30 < 30 := by omega
  have none : ¬ ow s o 900 f := fun q => absurd q.1 (by decide)
  rcases (show side = 0 ∨ side = 1 ∨ side = 2 ∨ side = 3 by omega) with rfl | rfl | rfl | rfl
  · show t_X6_owns E f (Int32.ofNat (c % 30) + 1) (Int32.ofNat (c / 30)) t = some (bi (ow s o (if c % 30 < 29 then c + 1 else 900) f), t)
    rw [i32_s]
    by_cases q : c % 30 < 29
    · rw [if_pos q, y_owns0 h (by omega) (by omega), show 30 * (c / 30) + (c % 30 + 1) = c + 1 by omega]
    · rw [if_neg q, y_ownsn (fun k => by have := (inF_n (by omega)).mp k.1; omega), bi_f none]
  · show t_X6_owns E f (Int32.ofNat (c % 30) - 1) (Int32.ofNat (c / 30)) t = some (bi (ow s o (if 0 < c % 30 then c - 1 else 900) f), t)
    rw [i32_subm1 (by omega)]
    by_cases q : c % 30 = 0
    · rw [if_pos q, if_neg (show ¬ 0 < c % 30 by omega), y_ownsn (fun k => inF_m1 _ k.1), bi_f none]
    · rw [if_neg q, if_pos (show 0 < c % 30 by omega), y_owns0 h (by omega) (by omega), show 30 * (c / 30) + (c % 30 - 1) = c - 1 by omega]
  · show t_X6_owns E f (Int32.ofNat (c % 30)) (Int32.ofNat (c / 30) + 1) t = some (bi (ow s o (if c / 30 < 29 then c + 30 else 900) f), t)
    rw [i32_s]
    by_cases q : c / 30 < 29
    · rw [if_pos q, y_owns0 h (by omega) (by omega), show 30 * (c / 30 + 1) + c % 30 = c + 30 by omega]
    · rw [if_neg q, y_ownsn (fun k => by have := (inF_n (by omega)).mp k.2; omega), bi_f none]
  · show t_X6_owns E f (Int32.ofNat (c % 30)) (Int32.ofNat (c / 30) - 1) t = some (bi (ow s o (if 0 < c / 30 then c - 30 else 900) f), t)
    rw [i32_subm1 (by omega)]
    by_cases q : c / 30 = 0
    · rw [if_pos q, if_neg (show ¬ 0 < c / 30 by omega), y_ownsn (fun k => inF_m1 _ k.2), bi_f none]
    · rw [if_neg q, if_pos (show 0 < c / 30 by omega), y_owns0 h (by omega) (by omega), show 30 * (c / 30 - 1) + c % 30 = c - 30 by omega]
theorem y_nbs (h : RB s o nf no mo t.1) {c : Nat} (hc : c < 900) (f : Int32) : t_X6_neighboursOf E f (Int32.ofNat (c % 30)) (Int32.ofNat (c / 30)) t = some (sm (fun k => bi (ow s o (nbr c k) f)) 4, t) := by
  have e0 := y_owns (E := E) h hc (side := 0) (by decide) f
  have e1 := y_owns (E := E) h hc (side := 1) (by decide) f
  have e2 := y_owns (E := E) h hc (side := 2) (by decide) f
  have e3 := y_owns (E := E) h hc (side := 3) (by decide) f
  have cas : ∀ {p : Prop} (A : Int32 → Option (Int32 × twS)), (if bi p = 0 then A 0 else A 1) = A (bi p) := fun {p} A => by
    by_cases q : p
    · rw [bi_t q]; exact if_neg (by decide)
    · rw [bi_f q]; exact if_pos rfl
  unfold t_X6_neighboursOf t_X6_neighboursOf_b0
  rw [show t_X6_owns E f (Int32.ofNat (c % 30) - 1) (Int32.ofNat (c / 30)) t = _ from e1, b2_some]
  refine (cas (fun v => t_X6_neighboursOf_b17 E f (Int32.ofNat (c % 30)) (Int32.ofNat (c / 30)) v t)).trans ?_
  unfold t_X6_neighboursOf_b17
  rw [show t_X6_owns E f (Int32.ofNat (c % 30) + 1) (Int32.ofNat (c / 30)) t = _ from e0, b2_some]
  refine (cas (fun v => t_X6_neighboursOf_b34 E f (Int32.ofNat (c % 30)) (Int32.ofNat (c / 30)) _ v t)).trans ?_
  unfold t_X6_neighboursOf_b34
  rw [show t_X6_owns E f (Int32.ofNat (c % 30)) (Int32.ofNat (c / 30) - 1) t = _ from e3, b2_some]
  refine (cas (fun v => t_X6_neighboursOf_b52 E f (Int32.ofNat (c % 30)) (Int32.ofNat (c / 30)) _ v t)).trans ?_
  unfold t_X6_neighboursOf_b52
  rw [show t_X6_owns E f (Int32.ofNat (c % 30)) (Int32.ofNat (c / 30) + 1) t = _ from e2, b2_some]
  refine (cas (fun v => t_X6_neighboursOf_b70 E _ v t)).trans ?_
  unfold t_X6_neighboursOf_b70
  refine congrArg (fun v => some (v, t)) ?_
  show bi (ow s o (nbr c 1) f) + bi (ow s o (nbr c 0) f) + bi (ow s o (nbr c 3) f) + bi (ow s o (nbr c 2) f) = 0 + bi (ow s o (nbr c 0) f) + bi (ow s o (nbr c 1) f) + bi (ow s o (nbr c 2) f) + bi (ow s o (nbr c 3) f)
  rw [Int32.zero_add, Int32.add_comm (bi (ow s o (nbr c 1) f)), Int32.add_assoc (_ + _) (bi (ow s o (nbr c 3) f)), Int32.add_comm (bi (ow s o (nbr c 3) f)), ← Int32.add_assoc]
end LTT
