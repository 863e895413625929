/-! CALLS, RETURNS, THROWS over the abstract heap -/
set_option maxRecDepth 100000
def zPre (D : zD) (B0 : Nat) (E : zE) (h : zH) : State → Prop := fun U => zRel D B0 U h U.heap ∧ zG D B0 E U U.heap ∧ B0 ≤ U.heap.size
def zPost (D : zD) (B0 kc ks : Nat) (h' : zH) (st t : State) : Prop := zRel D B0 t h' t.heap ∧ t.heap.size + h'.2.2.1 ≤ st.heap.size + kc ∧ zTot t.heap + h'.2.2.2 ≤ zTot st.heap + ks ∧ zTot st.heap ≤ zTot t.heap ∧ va_F (fun q => B0 ≤ q) st t
def zQc (D : zD) (B0 kc ks : Nat) (o : zO) (h' : zH) : Array Value → State → Outcome → State → Prop := fun _ st oc t => ∃ v, o = .inl v ∧ oc = .returned v ∧ zPost D B0 kc ks h' st t
def zXc (D : zD) (B0 kc ks : Nat) (o : zO) (h' : zH) : Addr → String → State → State → Prop := fun q E9 st t => ∃ (ci : Nat) (r : vw_C), o = .inr (ci, q) ∧ zCl[ci]? = some r ∧ r.1 = E9 ∧ (∃ fs, h'.1 q = some (true, .inr (ci, fs))) ∧ zPost D B0 kc ks h' st t
def zMet (l : Launch) (y : MethodName) (ws : List Cond) (fr lo : Nat) (D : zD) (B0 : Nat) (E : zE) (args : List Value) (h : zH) (o : zO) (h' : zH) : Prop :=
  vx_Met l y ws ({ frames := fr, cells := h.2.2.1, slots := h.2.2.2, locals := lo }) (va_Pc args (zPre D B0 E h)) (zQc D B0 h.2.2.1 h.2.2.2 o h') (zXc D B0 h.2.2.1 h.2.2.2 o h') h.2.2.1 h.2.2.2 (fun q => B0 ≤ q)
def zEnd (D : zD) (B0 : Nat) (R : Room) (below : List Frame) (args : Array Value) (s : State) (o : zO) (h' : zH) : State → Prop := vx_MQ below (zQc D B0 R.cells R.slots o h') (zXc D B0 R.cells R.slots o h') args s R.cells R.slots (fun q => B0 ≤ q)
/-- an object of class ci lies there -/
def isO (h : zH) (a ci : Nat) : Bool := match h.1 a with
  | some (_, .inr (c, _)) => c == ci
  | _ => false
theorem zisO {h : zH} {a ci : Nat} (hv : isO h a ci = true) : ∃ b fs, h.1 a = some (b, .inr (ci, fs)) := by
  unfold isO at hv
  split at hv
  · rename_i b c fs hh
    have : c = ci := by simpa using hv
    subst this
    exact ⟨b, fs, hh⟩
  · cases hv
theorem zPre_blind {D : zD} {B0 : Nat} {E : zE} {av : List Value} {h : zH} : FrameBlind (va_Pc av (zPre D B0 E h)) := by
  intro a U g mk ⟨h0, h1, h2, h3⟩
  exact ⟨h0, h1.alike (t := U.calling g mk a) (Vm.Alike.refl U.vm), h2.calling, h3⟩
theorem zPre_at {D : zD} {B0 : Nat} {E : zE} {h : zH} {s U : State} {H : Heap} {locs : List Loc} (hG : zG D B0 E s s.heap) (hB : B0 ≤ s.heap.size) (hr : zRel D B0 s h H) (hS : va_S (fun q => B0 ≤ q) s.heap H locs) (hU : U.heap = H) (hW : s.WarmedH U.vm) : zPre D B0 E h U := by
  subst hU
  exact ⟨hr.alike hW.alike, (hG.kept fun a h1 h2 => hS.2.1 a h1 h2).warm hW, Nat.le_trans hB hS.1⟩
def zX (p : Program) (l : Launch) (e : Env) (R : Room) (s : State) (m : MethodId) (args : Array Value) (below : List Frame) (meth : Method) (c : Code) (D : zD) (B0 nL : Nat) (Q : State → Prop) (h : zH) (pc : Nat) (lv : List (Nat × Value)) (ci q : Nat) : Prop :=
  (∃ fs, h.1 q = some (true, .inr (ci, fs))) → ∀ (H : Heap) (locs : List Loc) (ls : Array Slot) (cells slots : Nat) (rest : List Value), zRel D B0 s h H → zRoom R s h H → va_S (fun q => B0 ≤ q) s.heap H locs → lv_has ls nL lv → vx_W p l e R s m args below meth c H locs cells slots Q (F0 m pc ls rest) q
section ZR5
variable {p : Program} {l : Launch} {e : Env} {R : Room} {s : State} {m : MethodId} {args : Array Value} {below : List Frame} {meth : Method} {c : Code} {Q : State → Prop} {D : zD} {B0 nL : Nat} {own : String} {cc : ByteArray} {E : zE} {fr lo : Nat} {ret : Option FieldType} {mn : String} {h h1 : zH} {pc : Nat} {lv : List (Nat × Value)} {rest st st' : List Value}
theorem zr_after {H : Heap} {locs : List Loc} {ls : Array Slot} {cl sl : Nat} {o : zO} {a9 : Array Value} {st0 : List Value} (hr : zRel D B0 s h H) (hR : zRoom R s h H) (hS : va_S (fun q => B0 ≤ q) s.heap H locs) (hl : lv_has ls nL lv)
    (run : vx_Run p l e R s m args below meth c H locs (H.size - s.heap.size) (zTot H - zTot s.heap) h.2.2.1 h.2.2.2 (F0 m pc ls st0) rest (zQc D B0 h.2.2.1 h.2.2.2 o h1 a9) (zXc D B0 h.2.2.1 h.2.2.2 o h1) (fun q => B0 ≤ q))
    (kn : ∀ v, o = .inl v → zW p l e R s m args below meth c D B0 nL Q h1 (pc + 3) lv (v.toList ++ rest)) (kx : ∀ ci q, o = .inr (ci, q) → zX p l e R s m args below meth c D B0 nL Q h1 pc lv ci q) : W p l e R s m args below meth c H locs cl sl Q (F0 m pc ls st0) := by
  refine W_tight (fun T hT X => ?_)
  have hroom : ∀ (st₀ t T' : State), st₀.heap = H → T'.heap = t.heap → zPost D B0 h.2.2.1 h.2.2.2 h1 st₀ t → zRoom R s h1 T'.heap := by
    intro st₀ t T' h0 e1 hp
    obtain ⟨-, p2, p3, p4, -⟩ := hp
    rw [h0] at p2 p3 p4
    rw [e1]
    obtain ⟨r1, r2, r3⟩ := hR
    exact ⟨by omega, by omega, by omega⟩
  rcases run T hT X with ⟨v, st₀, t, T', L, h0, X', hL, e1, e2, ⟨v', ho, hv, hp⟩, stp⟩ | ⟨q, st₀, t, T', L, E9, ce, h0, X', hL, e1, e2, ⟨ci, r, ho, hc, hE, hq, hp⟩, hce, hcv, hcl, stp⟩
  · cases hv
    obtain ⟨k1, k2, k3⟩ := vx_keep h0 e1 hS (fun _ _ h => h) (fun _ h => h) hL hp.2.2.2.2
    have hal : t.vm.Alike s.vm := by rw [← e2]; exact X'.warmed.alike.symm
    obtain ⟨t2, a1, b1⟩ := kn v ho T'.heap (locs ++ L) ls _ _ (by rw [e1]; exact hp.1.alike hal) (hroom _ _ _ h0 e1 hp) k3 hl T' rfl X'
    exact ⟨t2, stp t2 a1, b1⟩
  · obtain ⟨k1, k2, k3⟩ := vx_keep h0 e1 hS (fun _ _ h => h) (fun _ h => h) hL hp.2.2.2.2
    have hal : t.vm.Alike s.vm := by rw [← e2]; exact X'.warmed.alike.symm
    obtain ⟨t2, a1, b1⟩ := kx ci q ho hq T'.heap (locs ++ L) ls _ _ rest (by rw [e1]; exact hp.1.alike hal) (hroom _ _ _ h0 e1 hp) k3 hl T' rfl X'
    exact ⟨t2, stp.trans a1, b1⟩
theorem zr_after5 {H : Heap} {locs : List Loc} {ls : Array Slot} {cl sl : Nat} {o : zO} {a9 : Array Value} {st0 : List Value} (hr : zRel D B0 s h H) (hR : zRoom R s h H) (hS : va_S (fun q => B0 ≤ q) s.heap H locs) (hl : lv_has ls nL lv)
    (run : vx_Run5 p l e R s m args below meth c H locs (H.size - s.heap.size) (zTot H - zTot s.heap) h.2.2.1 h.2.2.2 (F0 m pc ls st0) rest (zQc D B0 h.2.2.1 h.2.2.2 o h1 a9) (zXc D B0 h.2.2.1 h.2.2.2 o h1) (fun q => B0 ≤ q))
    (kn : ∀ v, o = .inl v → zW p l e R s m args below meth c D B0 nL Q h1 (pc + 5) lv (v.toList ++ rest)) (kx : ∀ ci q, o = .inr (ci, q) → zX p l e R s m args below meth c D B0 nL Q h1 pc lv ci q) : W p l e R s m args below meth c H locs cl sl Q (F0 m pc ls st0) := by
  refine W_tight (fun T hT X => ?_)
  have hroom : ∀ (st₀ t T' : State), st₀.heap = H → T'.heap = t.heap → zPost D B0 h.2.2.1 h.2.2.2 h1 st₀ t → zRoom R s h1 T'.heap := by
    intro st₀ t T' h0 e1 hp
    obtain ⟨-, p2, p3, p4, -⟩ := hp
    rw [h0] at p2 p3 p4
    rw [e1]
    obtain ⟨r1, r2, r3⟩ := hR
    exact ⟨by omega, by omega, by omega⟩
  rcases run T hT X with ⟨v, st₀, t, T', L, h0, X', hL, e1, e2, ⟨v', ho, hv, hp⟩, stp⟩ | ⟨q, st₀, t, T', L, E9, ce, h0, X', hL, e1, e2, ⟨ci, r, ho, hc, hE, hq, hp⟩, hce, hcv, hcl, stp⟩
  · cases hv
    obtain ⟨k1, k2, k3⟩ := vx_keep h0 e1 hS (fun _ _ h => h) (fun _ h => h) hL hp.2.2.2.2
    have hal : t.vm.Alike s.vm := by rw [← e2]; exact X'.warmed.alike.symm
    obtain ⟨t2, a1, b1⟩ := kn v ho T'.heap (locs ++ L) ls _ _ (by rw [e1]; exact hp.1.alike hal) (hroom _ _ _ h0 e1 hp) k3 hl T' rfl X'
    exact ⟨t2, stp t2 a1, b1⟩
  · obtain ⟨k1, k2, k3⟩ := vx_keep h0 e1 hS (fun _ _ h => h) (fun _ h => h) hL hp.2.2.2.2
    have hal : t.vm.Alike s.vm := by rw [← e2]; exact X'.warmed.alike.symm
    obtain ⟨t2, a1, b1⟩ := kx ci q ho hq T'.heap (locs ++ L) ls _ _ rest (by rw [e1]; exact hp.1.alike hal) (hroom _ _ _ h0 e1 hp) k3 hl T' rfl X'
    exact ⟨t2, stp.trans a1, b1⟩
theorem zr_recv {H : Heap} {C : String} {T : u_T} {N b ci : Nat} (hG : zG D B0 E s s.heap) (hr : zRel D B0 s h H) (hc : zCl[ci]? = some (C, T, N)) (hb : isO h b ci = true) : ∃ cellB : Cell, H[b]? = some cellB ∧ cellB.vm.isStatics = false ∧ s.vm.findClass C = some cellB.cls := by
  obtain ⟨bb, fs, hh⟩ := zisO hb
  obtain ⟨cell, q1, q2, q3, -, r, h1, q4, -⟩ := hr.2 b bb _ hh
  have hrr : r = (C, T, N) := Option.some.inj (h1.symm.trans hc)
  subst hrr
  exact ⟨cell, q1, q2, by rw [q4]; exact (hG.1.1 ci _ hc).2.1⟩
def zCS (own : String) (idx : Nat) (y : MethodName) (b9 : ByteArray) (L : Nat) (rt : Option FieldType) (n : Nat) : Prop := Cond.methodLink own idx y ∈ lw_all ∧ Cond.static y ∈ lw_all ∧ Cond.initialized y.cls ∈ lw_all ∧ Cond.code y b9 L rt ∈ lw_all ∧ (y.cls ≠ "java/lang/invoke/MethodHandle" ∧ y.cls ≠ "java/lang/invoke/VarHandle" ∧ (parseMethodDescriptor y.desc).map (fun d => d.parameters.length) = some n)
theorem zr_callS_r (C0 : zCx p l e R s m args below meth c D B0 nL own cc E fr lo ret mn) {idx L n : Nat} {y : MethodName} {b9 : ByteArray} {rt : Option FieldType} {As : List Value} {fr' lo' : Nat} {v0 : Option Value}  (cv : zCS own idx y b9 L rt n) (hM : zMet l y (ws_ y b9 L rt) fr' lo' D B0 E (As) h (.inl v0) h1) (hfr : fr' + 1 ≤ fr) (hlo : 8 + (L + 11) + lo' ≤ lo) (hn : As.length = n) (hst : As.reverse ++ rest = st) (hW : (rest.map fun v => v.category).sum ≤ 8) (hd : decode cc pc = .ok (.invokestatic idx, 3)) (hst' : v0.toList ++ rest = st') (kk : zW p l e R s m args below meth c D B0 nL Q h1 (pc + 3) lv st') : zW p l e R s m args below meth c D B0 nL Q h pc lv st := by
  intro H locs ls cl sl hr hR hS hl
  subst hst
  obtain ⟨hx, hbb, hml, hown, hts, hlk, -, hf, hl0, hG, hB, -⟩ := C0
  have hRR : fr' + 1 ≤ R.frames ∧ 8 + (L + 11) + lo' ≤ R.locals := ⟨Nat.le_trans hfr hf, Nat.le_trans hlo hl0⟩
  have hf2 : (H.size - s.heap.size) + h.2.2.1 ≤ R.cells ∧ (zTot H - zTot s.heap) + h.2.2.2 ≤ R.slots := by
    obtain ⟨r1, r2, r3⟩ := hR
    have := hS.1
    exact ⟨by omega, by omega⟩
  obtain ⟨w1, w2, w3, w4, w5⟩ := cv
  exact zr_after hr hR hS hl (vx_runS (cells := H.size - s.heap.size) (slots := zTot H - zTot s.heap) (H := H) (locs := locs) (g := F0 m pc ls _) (rest := rest) (As := As) ⟨hx, hbb, hml, hown, hts⟩ hM (va_cwS n hts (lw_S w1 w2 w3 w4) rfl rfl rfl w5 hRR) ⟨zPre_blind, fun U hU hW9 => ⟨rfl, zPre_at hG hB hr hS hU hW9⟩⟩ rfl hn hl.1 rfl (by show 2 * 0 + _ ≤ 8; omega) hd hf2) (fun v hv => by cases hv; rw [hst']; exact kk) (fun ci q hv => by cases hv)
theorem zr_callS_t (C0 : zCx p l e R s m args below meth c D B0 nL own cc E fr lo ret mn) {idx L n : Nat} {y : MethodName} {b9 : ByteArray} {rt : Option FieldType} {As : List Value} {fr' lo' : Nat} {ci9 q9 : Nat}  (cv : zCS own idx y b9 L rt n) (hM : zMet l y (ws_ y b9 L rt) fr' lo' D B0 E (As) h (.inr (ci9, q9)) h1) (hfr : fr' + 1 ≤ fr) (hlo : 8 + (L + 11) + lo' ≤ lo) (hn : As.length = n) (hst : As.reverse ++ rest = st) (hW : (rest.map fun v => v.category).sum ≤ 8) (hd : decode cc pc = .ok (.invokestatic idx, 3)) (kx : zX p l e R s m args below meth c D B0 nL Q h1 pc lv ci9 q9) : zW p l e R s m args below meth c D B0 nL Q h pc lv st := by
  intro H locs ls cl sl hr hR hS hl
  subst hst
  obtain ⟨hx, hbb, hml, hown, hts, hlk, -, hf, hl0, hG, hB, -⟩ := C0
  have hRR : fr' + 1 ≤ R.frames ∧ 8 + (L + 11) + lo' ≤ R.locals := ⟨Nat.le_trans hfr hf, Nat.le_trans hlo hl0⟩
  have hf2 : (H.size - s.heap.size) + h.2.2.1 ≤ R.cells ∧ (zTot H - zTot s.heap) + h.2.2.2 ≤ R.slots := by
    obtain ⟨r1, r2, r3⟩ := hR
    have := hS.1
    exact ⟨by omega, by omega⟩
  obtain ⟨w1, w2, w3, w4, w5⟩ := cv
  exact zr_after hr hR hS hl (vx_runS (cells := H.size - s.heap.size) (slots := zTot H - zTot s.heap) (H := H) (locs := locs) (g := F0 m pc ls _) (rest := rest) (As := As) ⟨hx, hbb, hml, hown, hts⟩ hM (va_cwS n hts (lw_S w1 w2 w3 w4) rfl rfl rfl w5 hRR) ⟨zPre_blind, fun U hU hW9 => ⟨rfl, zPre_at hG hB hr hS hU hW9⟩⟩ rfl hn hl.1 rfl (by show 2 * 0 + _ ≤ 8; omega) hd hf2) (fun v hv => by cases hv) (fun ci q hv => by cases hv; exact kx)
def zCV (own : String) (idx : Nat) (C : String) (y : MethodName) (b9 : ByteArray) (L : Nat) (rt : Option FieldType) (n : Nat) : Prop := Cond.methodLink own idx y ∈ lw_all ∧ Cond.instanceMethod y ∈ lw_all ∧ Cond.selects C y y ∈ lw_all ∧ Cond.initialized C ∈ lw_all ∧ Cond.code y b9 L rt ∈ lw_all ∧ y.cls = C ∧ (y.cls ≠ "java/lang/invoke/MethodHandle" ∧ y.cls ≠ "java/lang/invoke/VarHandle" ∧ (parseMethodDescriptor y.desc).map (fun d => d.parameters.length) = some n)
theorem zr_callV_r (C0 : zCx p l e R s m args below meth c D B0 nL own cc E fr lo ret mn) {idx L n : Nat} {y : MethodName} {b9 : ByteArray} {rt : Option FieldType} {b : Nat} {As : List Value} {fr' lo' : Nat} {v0 : Option Value}  {C : String} {T : u_T} {N ci : Nat} (cv : zCV own idx C y b9 L rt n) (hc : zCl[ci]? = some (C, T, N)) (hb : isO h b ci = true) (hM : zMet l y (ws_ y b9 L rt) fr' lo' D B0 E (.ref b :: As) h (.inl v0) h1) (hfr : fr' + 1 ≤ fr) (hlo : 8 + (L + 11) + lo' ≤ lo) (hn : As.length = n) (hst : As.reverse ++ .ref b :: rest = st) (hW : (rest.map fun v => v.category).sum ≤ 8) (hd : decode cc pc = .ok (.invokevirtual idx, 3)) (hst' : v0.toList ++ rest = st') (kk : zW p l e R s m args below meth c D B0 nL Q h1 (pc + 3) lv st') : zW p l e R s m args below meth c D B0 nL Q h pc lv st := by
  intro H locs ls cl sl hr hR hS hl
  subst hst
  obtain ⟨hx, hbb, hml, hown, hts, hlk, -, hf, hl0, hG, hB, -⟩ := C0
  have hRR : fr' + 1 ≤ R.frames ∧ 8 + (L + 11) + lo' ≤ R.locals := ⟨Nat.le_trans hfr hf, Nat.le_trans hlo hl0⟩
  have hf2 : (H.size - s.heap.size) + h.2.2.1 ≤ R.cells ∧ (zTot H - zTot s.heap) + h.2.2.2 ≤ R.slots := by
    obtain ⟨r1, r2, r3⟩ := hR
    have := hS.1
    exact ⟨by omega, by omega⟩
  obtain ⟨w1, w2, w3, w4, w5, w6⟩ := cv
  exact zr_after hr hR hS hl (vx_runV (cells := H.size - s.heap.size) (slots := zTot H - zTot s.heap) (H := H) (locs := locs) (g := F0 m pc ls _) (rest := rest) (As := As) ⟨hx, hbb, hml, hown, hts⟩ hM (cwV n hts (lw_V w1 w2 w3 w4 w5) rfl rfl rfl w6 hRR) ⟨zPre_blind, zr_recv hG hr hc hb, fun U hU hW9 => ⟨rfl, zPre_at hG hB hr hS hU hW9⟩⟩ rfl hn hl.1 rfl (by show 2 * 0 + _ ≤ 8; omega) hd hf2) (fun v hv => by cases hv; rw [hst']; exact kk) (fun ci q hv => by cases hv)
theorem zr_callV_t (C0 : zCx p l e R s m args below meth c D B0 nL own cc E fr lo ret mn) {idx L n : Nat} {y : MethodName} {b9 : ByteArray} {rt : Option FieldType} {b : Nat} {As : List Value} {fr' lo' : Nat} {ci9 q9 : Nat}  {C : String} {T : u_T} {N ci : Nat} (cv : zCV own idx C y b9 L rt n) (hc : zCl[ci]? = some (C, T, N)) (hb : isO h b ci = true) (hM : zMet l y (ws_ y b9 L rt) fr' lo' D B0 E (.ref b :: As) h (.inr (ci9, q9)) h1) (hfr : fr' + 1 ≤ fr) (hlo : 8 + (L + 11) + lo' ≤ lo) (hn : As.length = n) (hst : As.reverse ++ .ref b :: rest = st) (hW : (rest.map fun v => v.category).sum ≤ 8) (hd : decode cc pc = .ok (.invokevirtual idx, 3)) (kx : zX p l e R s m args below meth c D B0 nL Q h1 pc lv ci9 q9) : zW p l e R s m args below meth c D B0 nL Q h pc lv st := by
  intro H locs ls cl sl hr hR hS hl
  subst hst
  obtain ⟨hx, hbb, hml, hown, hts, hlk, -, hf, hl0, hG, hB, -⟩ := C0
  have hRR : fr' + 1 ≤ R.frames ∧ 8 + (L + 11) + lo' ≤ R.locals := ⟨Nat.le_trans hfr hf, Nat.le_trans hlo hl0⟩
  have hf2 : (H.size - s.heap.size) + h.2.2.1 ≤ R.cells ∧ (zTot H - zTot s.heap) + h.2.2.2 ≤ R.slots := by
    obtain ⟨r1, r2, r3⟩ := hR
    have := hS.1
    exact ⟨by omega, by omega⟩
  obtain ⟨w1, w2, w3, w4, w5, w6⟩ := cv
  exact zr_after hr hR hS hl (vx_runV (cells := H.size - s.heap.size) (slots := zTot H - zTot s.heap) (H := H) (locs := locs) (g := F0 m pc ls _) (rest := rest) (As := As) ⟨hx, hbb, hml, hown, hts⟩ hM (cwV n hts (lw_V w1 w2 w3 w4 w5) rfl rfl rfl w6 hRR) ⟨zPre_blind, zr_recv hG hr hc hb, fun U hU hW9 => ⟨rfl, zPre_at hG hB hr hS hU hW9⟩⟩ rfl hn hl.1 rfl (by show 2 * 0 + _ ≤ 8; omega) hd hf2) (fun v hv => by cases hv) (fun ci q hv => by cases hv; exact kx)
def zCI (own : String) (idx : Nat) (y : MethodName) (b9 : ByteArray) (L : Nat) (n : Nat) : Prop := Cond.methodLink own idx y ∈ lw_all ∧ Cond.instanceMethod y ∈ lw_all ∧ Cond.initialized y.cls ∈ lw_all ∧ Cond.code y b9 L none ∈ lw_all ∧ y.name = "<init>" ∧ (y.cls ≠ "java/lang/invoke/MethodHandle" ∧ y.cls ≠ "java/lang/invoke/VarHandle" ∧ (parseMethodDescriptor y.desc).map (fun d => d.parameters.length) = some n)
theorem zr_callI_r (C0 : zCx p l e R s m args below meth c D B0 nL own cc E fr lo ret mn) {idx L n : Nat} {y : MethodName} {b9 : ByteArray} {b : Nat} {As : List Value} {fr' lo' : Nat} {v0 : Option Value}  (cv : zCI own idx y b9 L n) (hM : zMet l y (ws_ y b9 L none) fr' lo' D B0 E (.ref b :: As) h (.inl v0) h1) (hfr : fr' + 1 ≤ fr) (hlo : 8 + (L + 11) + lo' ≤ lo) (hn : As.length = n) (hst : As.reverse ++ .ref b :: rest = st) (hW : (rest.map fun v => v.category).sum ≤ 8) (hd : decode cc pc = .ok (.invokespecial idx, 3)) (hst' : v0.toList ++ rest = st') (kk : zW p l e R s m args below meth c D B0 nL Q h1 (pc + 3) lv st') : zW p l e R s m args below meth c D B0 nL Q h pc lv st := by
  intro H locs ls cl sl hr hR hS hl
  subst hst
  obtain ⟨hx, hbb, hml, hown, hts, hlk, -, hf, hl0, hG, hB, -⟩ := C0
  have hRR : fr' + 1 ≤ R.frames ∧ 8 + (L + 11) + lo' ≤ R.locals := ⟨Nat.le_trans hfr hf, Nat.le_trans hlo hl0⟩
  have hf2 : (H.size - s.heap.size) + h.2.2.1 ≤ R.cells ∧ (zTot H - zTot s.heap) + h.2.2.2 ≤ R.slots := by
    obtain ⟨r1, r2, r3⟩ := hR
    have := hS.1
    exact ⟨by omega, by omega⟩
  obtain ⟨w1, w2, w3, w4, w5, w6⟩ := cv
  exact zr_after hr hR hS hl (vx_runI (cells := H.size - s.heap.size) (slots := zTot H - zTot s.heap) (H := H) (locs := locs) (g := F0 m pc ls _) (rest := rest) (As := As) ⟨hx, hbb, hml, hown, hts⟩ hM (cwI n hts (lw_meth w4) rfl rfl rfl (hts _ w3) (hts _ w1) (hts _ w2) w5 w6 hRR) ⟨zPre_blind, fun U hU hW9 => ⟨rfl, zPre_at hG hB hr hS hU hW9⟩⟩ rfl hn hl.1 rfl (by show 2 * 0 + _ ≤ 8; omega) hd hf2) (fun v hv => by cases hv; rw [hst']; exact kk) (fun ci q hv => by cases hv)
theorem zr_callI_t (C0 : zCx p l e R s m args below meth c D B0 nL own cc E fr lo ret mn) {idx L n : Nat} {y : MethodName} {b9 : ByteArray} {b : Nat} {As : List Value} {fr' lo' : Nat} {ci9 q9 : Nat}  (cv : zCI own idx y b9 L n) (hM : zMet l y (ws_ y b9 L none) fr' lo' D B0 E (.ref b :: As) h (.inr (ci9, q9)) h1) (hfr : fr' + 1 ≤ fr) (hlo : 8 + (L + 11) + lo' ≤ lo) (hn : As.length = n) (hst : As.reverse ++ .ref b :: rest = st) (hW : (rest.map fun v => v.category).sum ≤ 8) (hd : decode cc pc = .ok (.invokespecial idx, 3)) (kx : zX p l e R s m args below meth c D B0 nL Q h1 pc lv ci9 q9) : zW p l e R s m args below meth c D B0 nL Q h pc lv st := by
  intro H locs ls cl sl hr hR hS hl
  subst hst
  obtain ⟨hx, hbb, hml, hown, hts, hlk, -, hf, hl0, hG, hB, -⟩ := C0
  have hRR : fr' + 1 ≤ R.frames ∧ 8 + (L + 11) + lo' ≤ R.locals := ⟨Nat.le_trans hfr hf, Nat.le_trans hlo hl0⟩
  have hf2 : (H.size - s.heap.size) + h.2.2.1 ≤ R.cells ∧ (zTot H - zTot s.heap) + h.2.2.2 ≤ R.slots := by
    obtain ⟨r1, r2, r3⟩ := hR
    have := hS.1
    exact ⟨by omega, by omega⟩
  obtain ⟨w1, w2, w3, w4, w5, w6⟩ := cv
  exact zr_after hr hR hS hl (vx_runI (cells := H.size - s.heap.size) (slots := zTot H - zTot s.heap) (H := H) (locs := locs) (g := F0 m pc ls _) (rest := rest) (As := As) ⟨hx, hbb, hml, hown, hts⟩ hM (cwI n hts (lw_meth w4) rfl rfl rfl (hts _ w3) (hts _ w1) (hts _ w2) w5 w6 hRR) ⟨zPre_blind, fun U hU hW9 => ⟨rfl, zPre_at hG hB hr hS hU hW9⟩⟩ rfl hn hl.1 rfl (by show 2 * 0 + _ ≤ 8; omega) hd hf2) (fun v hv => by cases hv) (fun ci q hv => by cases hv; exact kx)
def zCIN (own : String) (idx : Nat) (y : MethodName) (b9 : ByteArray) (L : Nat) (n : Nat) : Prop := ∃ host, Cond.methodLinkNest own idx y host ∈ lw_tbl ∧ Cond.instanceMethod y ∈ lw_all ∧ Cond.initialized y.cls ∈ lw_all ∧ Cond.code y b9 L none ∈ lw_all ∧ y.name = "<init>" ∧ (y.cls ≠ "java/lang/invoke/MethodHandle" ∧ y.cls ≠ "java/lang/invoke/VarHandle" ∧ (parseMethodDescriptor y.desc).map (fun d => d.parameters.length) = some n)
theorem zr_callIN_r (C0 : zCx p l e R s m args below meth c D B0 nL own cc E fr lo ret mn) {idx L n : Nat} {y : MethodName} {b9 : ByteArray} {b : Nat} {As : List Value} {fr' lo' : Nat} {v0 : Option Value}  (cv : zCIN own idx y b9 L n) (hM : zMet l y (ws_ y b9 L none) fr' lo' D B0 E (.ref b :: As) h (.inl v0) h1) (hfr : fr' + 1 ≤ fr) (hlo : 8 + (L + 11) + lo' ≤ lo) (hn : As.length = n) (hst : As.reverse ++ .ref b :: rest = st) (hW : (rest.map fun v => v.category).sum ≤ 8) (hd : decode cc pc = .ok (.invokespecial idx, 3)) (hst' : v0.toList ++ rest = st') (kk : zW p l e R s m args below meth c D B0 nL Q h1 (pc + 3) lv st') : zW p l e R s m args below meth c D B0 nL Q h pc lv st := by
  intro H locs ls cl sl hr hR hS hl
  subst hst
  obtain ⟨hx, hbb, hml, hown, hts, hlk, -, hf, hl0, hG, hB, -⟩ := C0
  have hRR : fr' + 1 ≤ R.frames ∧ 8 + (L + 11) + lo' ≤ R.locals := ⟨Nat.le_trans hfr hf, Nat.le_trans hlo hl0⟩
  have hf2 : (H.size - s.heap.size) + h.2.2.1 ≤ R.cells ∧ (zTot H - zTot s.heap) + h.2.2.2 ≤ R.slots := by
    obtain ⟨r1, r2, r3⟩ := hR
    have := hS.1
    exact ⟨by omega, by omega⟩
  obtain ⟨host, w1, w2, w3, w4, w5, w6⟩ := cv
  exact zr_after hr hR hS hl (vx_runIN (cells := H.size - s.heap.size) (slots := zTot H - zTot s.heap) (H := H) (locs := locs) (g := F0 m pc ls _) (rest := rest) (As := As) ⟨hx, hbb, hml, hown, hts⟩ hM ⟨va_cnB n hts (lw_meth w4) rfl rfl rfl (hG.2.1 _ w1 rfl) (hts _ w3) w6 hRR, w5, hts _ w2⟩ ⟨zPre_blind, fun U hU hW9 => ⟨rfl, zPre_at hG hB hr hS hU hW9⟩⟩ rfl hn hl.1 rfl (by show 2 * 0 + _ ≤ 8; omega) hd hf2) (fun v hv => by cases hv; rw [hst']; exact kk) (fun ci q hv => by cases hv)
theorem zr_callIN_t (C0 : zCx p l e R s m args below meth c D B0 nL own cc E fr lo ret mn) {idx L n : Nat} {y : MethodName} {b9 : ByteArray} {b : Nat} {As : List Value} {fr' lo' : Nat} {ci9 q9 : Nat}  (cv : zCIN own idx y b9 L n) (hM : zMet l y (ws_ y b9 L none) fr' lo' D B0 E (.ref b :: As) h (.inr (ci9, q9)) h1) (hfr : fr' + 1 ≤ fr) (hlo : 8 + (L + 11) + lo' ≤ lo) (hn : As.length = n) (hst : As.reverse ++ .ref b :: rest = st) (hW : (rest.map fun v => v.category).sum ≤ 8) (hd : decode cc pc = .ok (.invokespecial idx, 3)) (kx : zX p l e R s m args below meth c D B0 nL Q h1 pc lv ci9 q9) : zW p l e R s m args below meth c D B0 nL Q h pc lv st := by
  intro H locs ls cl sl hr hR hS hl
  subst hst
  obtain ⟨hx, hbb, hml, hown, hts, hlk, -, hf, hl0, hG, hB, -⟩ := C0
  have hRR : fr' + 1 ≤ R.frames ∧ 8 + (L + 11) + lo' ≤ R.locals := ⟨Nat.le_trans hfr hf, Nat.le_trans hlo hl0⟩
  have hf2 : (H.size - s.heap.size) + h.2.2.1 ≤ R.cells ∧ (zTot H - zTot s.heap) + h.2.2.2 ≤ R.slots := by
    obtain ⟨r1, r2, r3⟩ := hR
    have := hS.1
    exact ⟨by omega, by omega⟩
  obtain ⟨host, w1, w2, w3, w4, w5, w6⟩ := cv
  exact zr_after hr hR hS hl (vx_runIN (cells := H.size - s.heap.size) (slots := zTot H - zTot s.heap) (H := H) (locs := locs) (g := F0 m pc ls _) (rest := rest) (As := As) ⟨hx, hbb, hml, hown, hts⟩ hM ⟨va_cnB n hts (lw_meth w4) rfl rfl rfl (hG.2.1 _ w1 rfl) (hts _ w3) w6 hRR, w5, hts _ w2⟩ ⟨zPre_blind, fun U hU hW9 => ⟨rfl, zPre_at hG hB hr hS hU hW9⟩⟩ rfl hn hl.1 rfl (by show 2 * 0 + _ ≤ 8; omega) hd hf2) (fun v hv => by cases hv) (fun ci q hv => by cases hv; exact kx)
def zCVN (own : String) (idx : Nat) (C : String) (y : MethodName) (b9 : ByteArray) (L : Nat) (rt : Option FieldType) (n : Nat) : Prop := ∃ host, Cond.methodLinkNest own idx y host ∈ lw_tbl ∧ Cond.instanceMethod y ∈ lw_all ∧ Cond.selects C y y ∈ lw_all ∧ Cond.initialized y.cls ∈ lw_all ∧ Cond.code y b9 L rt ∈ lw_all ∧ (y.cls ≠ "java/lang/invoke/MethodHandle" ∧ y.cls ≠ "java/lang/invoke/VarHandle" ∧ (parseMethodDescriptor y.desc).map (fun d => d.parameters.length) = some n)
theorem zr_callVN_r (C0 : zCx p l e R s m args below meth c D B0 nL own cc E fr lo ret mn) {idx L n : Nat} {y : MethodName} {b9 : ByteArray} {rt : Option FieldType} {b : Nat} {As : List Value} {fr' lo' : Nat} {v0 : Option Value}  {C : String} {T : u_T} {N ci : Nat} (cv : zCVN own idx C y b9 L rt n) (hc : zCl[ci]? = some (C, T, N)) (hb : isO h b ci = true) (hM : zMet l y (ws_ y b9 L rt) fr' lo' D B0 E (.ref b :: As) h (.inl v0) h1) (hfr : fr' + 1 ≤ fr) (hlo : 8 + (L + 11) + lo' ≤ lo) (hn : As.length = n) (hst : As.reverse ++ .ref b :: rest = st) (hW : (rest.map fun v => v.category).sum ≤ 8) (hd : decode cc pc = .ok (.invokevirtual idx, 3)) (hst' : v0.toList ++ rest = st') (kk : zW p l e R s m args below meth c D B0 nL Q h1 (pc + 3) lv st') : zW p l e R s m args below meth c D B0 nL Q h pc lv st := by
  intro H locs ls cl sl hr hR hS hl
  subst hst
  obtain ⟨hx, hbb, hml, hown, hts, hlk, -, hf, hl0, hG, hB, -⟩ := C0
  have hRR : fr' + 1 ≤ R.frames ∧ 8 + (L + 11) + lo' ≤ R.locals := ⟨Nat.le_trans hfr hf, Nat.le_trans hlo hl0⟩
  have hf2 : (H.size - s.heap.size) + h.2.2.1 ≤ R.cells ∧ (zTot H - zTot s.heap) + h.2.2.2 ≤ R.slots := by
    obtain ⟨r1, r2, r3⟩ := hR
    have := hS.1
    exact ⟨by omega, by omega⟩
  obtain ⟨host, w1, w2, w3, w4, w5, w6⟩ := cv
  exact zr_after hr hR hS hl (vx_runVN (cells := H.size - s.heap.size) (slots := zTot H - zTot s.heap) (H := H) (locs := locs) (g := F0 m pc ls _) (rest := rest) (As := As) ⟨hx, hbb, hml, hown, hts⟩ hM ⟨va_cnB n hts (lw_meth w5) rfl rfl rfl (hG.2.1 _ w1 rfl) (hts _ w4) w6 hRR, hts _ w2, hts _ w3⟩ ⟨zPre_blind, zr_recv hG hr hc hb, fun U hU hW9 => ⟨rfl, zPre_at hG hB hr hS hU hW9⟩⟩ rfl hn hl.1 rfl (by show 2 * 0 + _ ≤ 8; omega) hd hf2) (fun v hv => by cases hv; rw [hst']; exact kk) (fun ci q hv => by cases hv)
theorem zr_callVN_t (C0 : zCx p l e R s m args below meth c D B0 nL own cc E fr lo ret mn) {idx L n : Nat} {y : MethodName} {b9 : ByteArray} {rt : Option FieldType} {b : Nat} {As : List Value} {fr' lo' : Nat} {ci9 q9 : Nat}  {C : String} {T : u_T} {N ci : Nat} (cv : zCVN own idx C y b9 L rt n) (hc : zCl[ci]? = some (C, T, N)) (hb : isO h b ci = true) (hM : zMet l y (ws_ y b9 L rt) fr' lo' D B0 E (.ref b :: As) h (.inr (ci9, q9)) h1) (hfr : fr' + 1 ≤ fr) (hlo : 8 + (L + 11) + lo' ≤ lo) (hn : As.length = n) (hst : As.reverse ++ .ref b :: rest = st) (hW : (rest.map fun v => v.category).sum ≤ 8) (hd : decode cc pc = .ok (.invokevirtual idx, 3)) (kx : zX p l e R s m args below meth c D B0 nL Q h1 pc lv ci9 q9) : zW p l e R s m args below meth c D B0 nL Q h pc lv st := by
  intro H locs ls cl sl hr hR hS hl
  subst hst
  obtain ⟨hx, hbb, hml, hown, hts, hlk, -, hf, hl0, hG, hB, -⟩ := C0
  have hRR : fr' + 1 ≤ R.frames ∧ 8 + (L + 11) + lo' ≤ R.locals := ⟨Nat.le_trans hfr hf, Nat.le_trans hlo hl0⟩
  have hf2 : (H.size - s.heap.size) + h.2.2.1 ≤ R.cells ∧ (zTot H - zTot s.heap) + h.2.2.2 ≤ R.slots := by
    obtain ⟨r1, r2, r3⟩ := hR
    have := hS.1
    exact ⟨by omega, by omega⟩
  obtain ⟨host, w1, w2, w3, w4, w5, w6⟩ := cv
  exact zr_after hr hR hS hl (vx_runVN (cells := H.size - s.heap.size) (slots := zTot H - zTot s.heap) (H := H) (locs := locs) (g := F0 m pc ls _) (rest := rest) (As := As) ⟨hx, hbb, hml, hown, hts⟩ hM ⟨va_cnB n hts (lw_meth w5) rfl rfl rfl (hG.2.1 _ w1 rfl) (hts _ w4) w6 hRR, hts _ w2, hts _ w3⟩ ⟨zPre_blind, zr_recv hG hr hc hb, fun U hU hW9 => ⟨rfl, zPre_at hG hB hr hS hU hW9⟩⟩ rfl hn hl.1 rfl (by show 2 * 0 + _ ≤ 8; omega) hd hf2) (fun v hv => by cases hv) (fun ci q hv => by cases hv; exact kx)
def zCSN (own : String) (idx : Nat) (y : MethodName) (b9 : ByteArray) (L : Nat) (rt : Option FieldType) (n : Nat) : Prop := ∃ host, Cond.methodLinkNest own idx y host ∈ lw_tbl ∧ Cond.static y ∈ lw_all ∧ Cond.initialized y.cls ∈ lw_all ∧ Cond.code y b9 L rt ∈ lw_all ∧ (y.cls ≠ "java/lang/invoke/MethodHandle" ∧ y.cls ≠ "java/lang/invoke/VarHandle" ∧ (parseMethodDescriptor y.desc).map (fun d => d.parameters.length) = some n)
theorem zr_callSN_r (C0 : zCx p l e R s m args below meth c D B0 nL own cc E fr lo ret mn) {idx L n : Nat} {y : MethodName} {b9 : ByteArray} {rt : Option FieldType} {As : List Value} {fr' lo' : Nat} {v0 : Option Value}  (cv : zCSN own idx y b9 L rt n) (hM : zMet l y (ws_ y b9 L rt) fr' lo' D B0 E (As) h (.inl v0) h1) (hfr : fr' + 1 ≤ fr) (hlo : 8 + (L + 11) + lo' ≤ lo) (hn : As.length = n) (hst : As.reverse ++ rest = st) (hW : (rest.map fun v => v.category).sum ≤ 8) (hd : decode cc pc = .ok (.invokestatic idx, 3)) (hst' : v0.toList ++ rest = st') (kk : zW p l e R s m args below meth c D B0 nL Q h1 (pc + 3) lv st') : zW p l e R s m args below meth c D B0 nL Q h pc lv st := by
  intro H locs ls cl sl hr hR hS hl
  subst hst
  obtain ⟨hx, hbb, hml, hown, hts, hlk, -, hf, hl0, hG, hB, -⟩ := C0
  have hRR : fr' + 1 ≤ R.frames ∧ 8 + (L + 11) + lo' ≤ R.locals := ⟨Nat.le_trans hfr hf, Nat.le_trans hlo hl0⟩
  have hf2 : (H.size - s.heap.size) + h.2.2.1 ≤ R.cells ∧ (zTot H - zTot s.heap) + h.2.2.2 ≤ R.slots := by
    obtain ⟨r1, r2, r3⟩ := hR
    have := hS.1
    exact ⟨by omega, by omega⟩
  obtain ⟨host, w1, w2, w3, w4, w5⟩ := cv
  exact zr_after hr hR hS hl (vx_runSN (cells := H.size - s.heap.size) (slots := zTot H - zTot s.heap) (H := H) (locs := locs) (g := F0 m pc ls _) (rest := rest) (As := As) ⟨hx, hbb, hml, hown, hts⟩ hM ⟨va_cnB n hts (lw_meth w4) rfl rfl rfl (hG.2.1 _ w1 rfl) (hts _ w3) w5 hRR, hts _ w2, trivial⟩ ⟨zPre_blind, fun U hU hW9 => ⟨rfl, zPre_at hG hB hr hS hU hW9⟩⟩ rfl hn hl.1 rfl (by show 2 * 0 + _ ≤ 8; omega) hd hf2) (fun v hv => by cases hv; rw [hst']; exact kk) (fun ci q hv => by cases hv)
theorem zr_callSN_t (C0 : zCx p l e R s m args below meth c D B0 nL own cc E fr lo ret mn) {idx L n : Nat} {y : MethodName} {b9 : ByteArray} {rt : Option FieldType} {As : List Value} {fr' lo' : Nat} {ci9 q9 : Nat}  (cv : zCSN own idx y b9 L rt n) (hM : zMet l y (ws_ y b9 L rt) fr' lo' D B0 E (As) h (.inr (ci9, q9)) h1) (hfr : fr' + 1 ≤ fr) (hlo : 8 + (L + 11) + lo' ≤ lo) (hn : As.length = n) (hst : As.reverse ++ rest = st) (hW : (rest.map fun v => v.category).sum ≤ 8) (hd : decode cc pc = .ok (.invokestatic idx, 3)) (kx : zX p l e R s m args below meth c D B0 nL Q h1 pc lv ci9 q9) : zW p l e R s m args below meth c D B0 nL Q h pc lv st := by
  intro H locs ls cl sl hr hR hS hl
  subst hst
  obtain ⟨hx, hbb, hml, hown, hts, hlk, -, hf, hl0, hG, hB, -⟩ := C0
  have hRR : fr' + 1 ≤ R.frames ∧ 8 + (L + 11) + lo' ≤ R.locals := ⟨Nat.le_trans hfr hf, Nat.le_trans hlo hl0⟩
  have hf2 : (H.size - s.heap.size) + h.2.2.1 ≤ R.cells ∧ (zTot H - zTot s.heap) + h.2.2.2 ≤ R.slots := by
    obtain ⟨r1, r2, r3⟩ := hR
    have := hS.1
    exact ⟨by omega, by omega⟩
  obtain ⟨host, w1, w2, w3, w4, w5⟩ := cv
  exact zr_after hr hR hS hl (vx_runSN (cells := H.size - s.heap.size) (slots := zTot H - zTot s.heap) (H := H) (locs := locs) (g := F0 m pc ls _) (rest := rest) (As := As) ⟨hx, hbb, hml, hown, hts⟩ hM ⟨va_cnB n hts (lw_meth w4) rfl rfl rfl (hG.2.1 _ w1 rfl) (hts _ w3) w5 hRR, hts _ w2, trivial⟩ ⟨zPre_blind, fun U hU hW9 => ⟨rfl, zPre_at hG hB hr hS hU hW9⟩⟩ rfl hn hl.1 rfl (by show 2 * 0 + _ ≤ 8; omega) hd hf2) (fun v hv => by cases hv) (fun ci q hv => by cases hv; exact kx)
def zCU (own : String) (idx : Nat) (C owner : String) (x y : MethodName) (b9 : ByteArray) (L : Nat) (rt : Option FieldType) (n : Nat) : Prop := Cond.methodLink own idx x ∈ lw_all ∧ Cond.sameMethod x.cls owner x.name x.desc ∈ lw_all ∧ Cond.selects C x y ∈ lw_all ∧ Cond.instanceMethod y ∈ lw_all ∧ Cond.initialized y.cls ∈ lw_all ∧ Cond.code y b9 L rt ∈ lw_all ∧ y = ⟨owner, x.name, x.desc⟩ ∧ (owner ≠ "java/lang/invoke/MethodHandle" ∧ owner ≠ "java/lang/invoke/VarHandle" ∧ (parseMethodDescriptor x.desc).map (fun d => d.parameters.length) = some n)
theorem zr_callU_r (C0 : zCx p l e R s m args below meth c D B0 nL own cc E fr lo ret mn) {idx L n : Nat} {x y : MethodName} {owner : String} {b9 : ByteArray} {rt : Option FieldType} {b : Nat} {As : List Value} {fr' lo' : Nat} {v0 : Option Value}  {C : String} {T : u_T} {N ci : Nat} (cv : zCU own idx C owner x y b9 L rt n) (hc : zCl[ci]? = some (C, T, N)) (hb : isO h b ci = true) (hM : zMet l y (ws_ y b9 L rt) fr' lo' D B0 E (.ref b :: As) h (.inl v0) h1) (hfr : fr' + 1 ≤ fr) (hlo : 8 + (L + 11) + lo' ≤ lo) (hn : As.length = n) (hst : As.reverse ++ .ref b :: rest = st) (hW : (rest.map fun v => v.category).sum ≤ 8) (hd : decode cc pc = .ok (.invokevirtual idx, 3)) (hst' : v0.toList ++ rest = st') (kk : zW p l e R s m args below meth c D B0 nL Q h1 (pc + 3) lv st') : zW p l e R s m args below meth c D B0 nL Q h pc lv st := by
  intro H locs ls cl sl hr hR hS hl
  subst hst
  obtain ⟨hx, hbb, hml, hown, hts, hlk, -, hf, hl0, hG, hB, -⟩ := C0
  have hRR : fr' + 1 ≤ R.frames ∧ 8 + (L + 11) + lo' ≤ R.locals := ⟨Nat.le_trans hfr hf, Nat.le_trans hlo hl0⟩
  have hf2 : (H.size - s.heap.size) + h.2.2.1 ≤ R.cells ∧ (zTot H - zTot s.heap) + h.2.2.2 ≤ R.slots := by
    obtain ⟨r1, r2, r3⟩ := hR
    have := hS.1
    exact ⟨by omega, by omega⟩
  obtain ⟨w1, w2, w3, w4, w5, w6, w7, w8⟩ := cv
  have hgd : GoodIn lw_all (va_wsU own idx C owner x y (ws_ y b9 L rt)) := lw_app (by intro w hw; simp only [List.mem_cons, List.not_mem_nil, or_false] at hw; rcases hw with e | e | e | e | e <;> (rw [e]; assumption)) (lw_meth w6)
  exact zr_after hr hR hS hl (vx_runU (cells := H.size - s.heap.size) (slots := zTot H - zTot s.heap) (H := H) (locs := locs) (g := F0 m pc ls _) (rest := rest) (As := As) ⟨hx, hbb, hml, hown, hts⟩ hM (va_cwU n hts hgd rfl rfl rfl w7 w8 hRR) ⟨zPre_blind, zr_recv hG hr hc hb, fun U hU hW9 => ⟨rfl, zPre_at hG hB hr hS hU hW9⟩⟩ rfl hn hl.1 rfl (by show 2 * 0 + _ ≤ 8; omega) hd hf2) (fun v hv => by cases hv; rw [hst']; exact kk) (fun ci q hv => by cases hv)
theorem zr_callU_t (C0 : zCx p l e R s m args below meth c D B0 nL own cc E fr lo ret mn) {idx L n : Nat} {x y : MethodName} {owner : String} {b9 : ByteArray} {rt : Option FieldType} {b : Nat} {As : List Value} {fr' lo' : Nat} {ci9 q9 : Nat}  {C : String} {T : u_T} {N ci : Nat} (cv : zCU own idx C owner x y b9 L rt n) (hc : zCl[ci]? = some (C, T, N)) (hb : isO h b ci = true) (hM : zMet l y (ws_ y b9 L rt) fr' lo' D B0 E (.ref b :: As) h (.inr (ci9, q9)) h1) (hfr : fr' + 1 ≤ fr) (hlo : 8 + (L + 11) + lo' ≤ lo) (hn : As.length = n) (hst : As.reverse ++ .ref b :: rest = st) (hW : (rest.map fun v => v.category).sum ≤ 8) (hd : decode cc pc = .ok (.invokevirtual idx, 3)) (kx : zX p l e R s m args below meth c D B0 nL Q h1 pc lv ci9 q9) : zW p l e R s m args below meth c D B0 nL Q h pc lv st := by
  intro H locs ls cl sl hr hR hS hl
  subst hst
  obtain ⟨hx, hbb, hml, hown, hts, hlk, -, hf, hl0, hG, hB, -⟩ := C0
  have hRR : fr' + 1 ≤ R.frames ∧ 8 + (L + 11) + lo' ≤ R.locals := ⟨Nat.le_trans hfr hf, Nat.le_trans hlo hl0⟩
  have hf2 : (H.size - s.heap.size) + h.2.2.1 ≤ R.cells ∧ (zTot H - zTot s.heap) + h.2.2.2 ≤ R.slots := by
    obtain ⟨r1, r2, r3⟩ := hR
    have := hS.1
    exact ⟨by omega, by omega⟩
  obtain ⟨w1, w2, w3, w4, w5, w6, w7, w8⟩ := cv
  have hgd : GoodIn lw_all (va_wsU own idx C owner x y (ws_ y b9 L rt)) := lw_app (by intro w hw; simp only [List.mem_cons, List.not_mem_nil, or_false] at hw; rcases hw with e | e | e | e | e <;> (rw [e]; assumption)) (lw_meth w6)
  exact zr_after hr hR hS hl (vx_runU (cells := H.size - s.heap.size) (slots := zTot H - zTot s.heap) (H := H) (locs := locs) (g := F0 m pc ls _) (rest := rest) (As := As) ⟨hx, hbb, hml, hown, hts⟩ hM (va_cwU n hts hgd rfl rfl rfl w7 w8 hRR) ⟨zPre_blind, zr_recv hG hr hc hb, fun U hU hW9 => ⟨rfl, zPre_at hG hB hr hS hU hW9⟩⟩ rfl hn hl.1 rfl (by show 2 * 0 + _ ≤ 8; omega) hd hf2) (fun v hv => by cases hv) (fun ci q hv => by cases hv; exact kx)
def zCSU (own : String) (idx : Nat) (y : MethodName) (b9 : ByteArray) (L : Nat) (rt : Option FieldType) (n : Nat) : Prop := Cond.methodLink own idx y ∈ lw_all ∧ Cond.sameMethod y.cls y.cls y.name y.desc ∈ lw_all ∧ Cond.superclass own y.cls ∈ lw_all ∧ Cond.instanceMethod y ∈ lw_all ∧ Cond.initialized y.cls ∈ lw_all ∧ Cond.code y b9 L rt ∈ lw_all ∧ (y.name ≠ "<init>" ∧ (parseMethodDescriptor y.desc).map (fun d => d.parameters.length) = some n)
theorem zr_callSU_r (C0 : zCx p l e R s m args below meth c D B0 nL own cc E fr lo ret mn) {idx L n : Nat} {y : MethodName} {b9 : ByteArray} {rt : Option FieldType} {b : Nat} {As : List Value} {fr' lo' : Nat} {v0 : Option Value}  {C : String} {T : u_T} {N ci : Nat} (cv : zCSU own idx y b9 L rt n) (hc : zCl[ci]? = some (C, T, N)) (hb : isO h b ci = true) (hM : zMet l y (ws_ y b9 L rt) fr' lo' D B0 E (.ref b :: As) h (.inl v0) h1) (hfr : fr' + 1 ≤ fr) (hlo : 8 + (L + 11) + lo' ≤ lo) (hn : As.length = n) (hst : As.reverse ++ .ref b :: rest = st) (hW : (rest.map fun v => v.category).sum ≤ 8) (hd : decode cc pc = .ok (.invokespecial idx, 3)) (hst' : v0.toList ++ rest = st') (kk : zW p l e R s m args below meth c D B0 nL Q h1 (pc + 3) lv st') : zW p l e R s m args below meth c D B0 nL Q h pc lv st := by
  intro H locs ls cl sl hr hR hS hl
  subst hst
  obtain ⟨hx, hbb, hml, hown, hts, hlk, -, hf, hl0, hG, hB, -⟩ := C0
  have hRR : fr' + 1 ≤ R.frames ∧ 8 + (L + 11) + lo' ≤ R.locals := ⟨Nat.le_trans hfr hf, Nat.le_trans hlo hl0⟩
  have hf2 : (H.size - s.heap.size) + h.2.2.1 ≤ R.cells ∧ (zTot H - zTot s.heap) + h.2.2.2 ≤ R.slots := by
    obtain ⟨r1, r2, r3⟩ := hR
    have := hS.1
    exact ⟨by omega, by omega⟩
  obtain ⟨w1, w2, w3, w4, w5, w6, w7⟩ := cv
  have hgd : GoodIn lw_all (va_wsSU own idx y (ws_ y b9 L rt)) := lw_app (by intro w hw; simp only [List.mem_cons, List.not_mem_nil, or_false] at hw; rcases hw with e | e | e | e | e <;> (rw [e]; assumption)) (lw_meth w6)
  obtain ⟨-, hat⟩ := hG.1.1 ci _ hc
  exact zr_after hr hR hS hl (vx_runSU hat (cells := H.size - s.heap.size) (slots := zTot H - zTot s.heap) (H := H) (locs := locs) (g := F0 m pc ls _) (rest := rest) (As := As) ⟨hx, hbb, hml, hown, hts⟩ hM (va_cwSU n hts hgd rfl rfl rfl w7 hRR) ⟨zPre_blind, zr_recv hG hr hc hb, fun U hU hW9 => ⟨rfl, zPre_at hG hB hr hS hU hW9⟩⟩ rfl hn hl.1 rfl (by show 2 * 0 + _ ≤ 8; omega) hd hf2) (fun v hv => by cases hv; rw [hst']; exact kk) (fun ci q hv => by cases hv)
theorem zr_callSU_t (C0 : zCx p l e R s m args below meth c D B0 nL own cc E fr lo ret mn) {idx L n : Nat} {y : MethodName} {b9 : ByteArray} {rt : Option FieldType} {b : Nat} {As : List Value} {fr' lo' : Nat} {ci9 q9 : Nat}  {C : String} {T : u_T} {N ci : Nat} (cv : zCSU own idx y b9 L rt n) (hc : zCl[ci]? = some (C, T, N)) (hb : isO h b ci = true) (hM : zMet l y (ws_ y b9 L rt) fr' lo' D B0 E (.ref b :: As) h (.inr (ci9, q9)) h1) (hfr : fr' + 1 ≤ fr) (hlo : 8 + (L + 11) + lo' ≤ lo) (hn : As.length = n) (hst : As.reverse ++ .ref b :: rest = st) (hW : (rest.map fun v => v.category).sum ≤ 8) (hd : decode cc pc = .ok (.invokespecial idx, 3)) (kx : zX p l e R s m args below meth c D B0 nL Q h1 pc lv ci9 q9) : zW p l e R s m args below meth c D B0 nL Q h pc lv st := by
  intro H locs ls cl sl hr hR hS hl
  subst hst
  obtain ⟨hx, hbb, hml, hown, hts, hlk, -, hf, hl0, hG, hB, -⟩ := C0
  have hRR : fr' + 1 ≤ R.frames ∧ 8 + (L + 11) + lo' ≤ R.locals := ⟨Nat.le_trans hfr hf, Nat.le_trans hlo hl0⟩
  have hf2 : (H.size - s.heap.size) + h.2.2.1 ≤ R.cells ∧ (zTot H - zTot s.heap) + h.2.2.2 ≤ R.slots := by
    obtain ⟨r1, r2, r3⟩ := hR
    have := hS.1
    exact ⟨by omega, by omega⟩
  obtain ⟨w1, w2, w3, w4, w5, w6, w7⟩ := cv
  have hgd : GoodIn lw_all (va_wsSU own idx y (ws_ y b9 L rt)) := lw_app (by intro w hw; simp only [List.mem_cons, List.not_mem_nil, or_false] at hw; rcases hw with e | e | e | e | e <;> (rw [e]; assumption)) (lw_meth w6)
  obtain ⟨-, hat⟩ := hG.1.1 ci _ hc
  exact zr_after hr hR hS hl (vx_runSU hat (cells := H.size - s.heap.size) (slots := zTot H - zTot s.heap) (H := H) (locs := locs) (g := F0 m pc ls _) (rest := rest) (As := As) ⟨hx, hbb, hml, hown, hts⟩ hM (va_cwSU n hts hgd rfl rfl rfl w7 hRR) ⟨zPre_blind, zr_recv hG hr hc hb, fun U hU hW9 => ⟨rfl, zPre_at hG hB hr hS hU hW9⟩⟩ rfl hn hl.1 rfl (by show 2 * 0 + _ ≤ 8; omega) hd hf2) (fun v hv => by cases hv) (fun ci q hv => by cases hv; exact kx)
def zCF (own : String) (idx : Nat) (C : String) (x y : MethodName) (b9 : ByteArray) (L : Nat) (rt : Option FieldType) (n : Nat) : Prop := Cond.methodLink own idx x ∈ lw_all ∧ Cond.selects C x y ∈ lw_all ∧ Cond.instanceMethod y ∈ lw_all ∧ Cond.initialized y.cls ∈ lw_all ∧ Cond.code y b9 L rt ∈ lw_all ∧ (C, x, y) ∈ zFws ∧ (x.cls ≠ "java/lang/invoke/MethodHandle" ∧ x.cls ≠ "java/lang/invoke/VarHandle" ∧ (parseMethodDescriptor x.desc).map (fun d => d.parameters.length) = some n)
theorem zr_callF_r (C0 : zCx p l e R s m args below meth c D B0 nL own cc E fr lo ret mn) {idx L n cnt : Nat} {x y : MethodName} {b9 : ByteArray} {rt : Option FieldType} {b : Nat} {As : List Value} {fr' lo' : Nat} {v0 : Option Value}  {C : String} {T : u_T} {N ci : Nat} (cv : zCF own idx C x y b9 L rt n) (hc : zCl[ci]? = some (C, T, N)) (hb : isO h b ci = true) (hM : zMet l y (ws_ y b9 L rt) fr' lo' D B0 E (.ref b :: As) h (.inl v0) h1) (hfr : fr' + 1 ≤ fr) (hlo : 8 + (L + 11) + lo' ≤ lo) (hn : As.length = n) (hst : As.reverse ++ .ref b :: rest = st) (hW : (rest.map fun v => v.category).sum ≤ 8) (hd : decode cc pc = .ok (.invokeinterface idx cnt, 5)) (hst' : v0.toList ++ rest = st') (kk : zW p l e R s m args below meth c D B0 nL Q h1 (pc + 5) lv st') : zW p l e R s m args below meth c D B0 nL Q h pc lv st := by
  intro H locs ls cl sl hr hR hS hl
  subst hst
  obtain ⟨hx, hbb, hml, hown, hts, hlk, -, hf, hl0, hG, hB, -⟩ := C0
  have hRR : fr' + 1 ≤ R.frames ∧ 8 + (L + 11) + lo' ≤ R.locals := ⟨Nat.le_trans hfr hf, Nat.le_trans hlo hl0⟩
  have hf2 : (H.size - s.heap.size) + h.2.2.1 ≤ R.cells ∧ (zTot H - zTot s.heap) + h.2.2.2 ≤ R.slots := by
    obtain ⟨r1, r2, r3⟩ := hR
    have := hS.1
    exact ⟨by omega, by omega⟩
  obtain ⟨w1, w2, w3, w4, w5, w6, w7⟩ := cv
  have hgd : GoodIn lw_all (va_wsF own idx C x y (ws_ y b9 L rt)) := lw_app (by intro w hw; simp only [List.mem_cons, List.not_mem_nil, or_false] at hw; rcases hw with e | e | e | e <;> (rw [e]; assumption)) (lw_meth w5)
  obtain ⟨-, hat⟩ := hG.1.1 ci _ hc
  exact zr_after5 hr hR hS hl (vx_runF hat (cells := H.size - s.heap.size) (slots := zTot H - zTot s.heap) (H := H) (locs := locs) (g := F0 m pc ls _) (rest := rest) (As := As) ⟨hx, hbb, hml, hown, hts⟩ hM (va_cwF n hts hgd rfl rfl rfl (hG.2.2.2.1 _ w6) w7 hRR) ⟨zPre_blind, zr_recv hG hr hc hb, fun U hU hW9 => ⟨rfl, zPre_at hG hB hr hS hU hW9⟩⟩ rfl hn hl.1 rfl (by show 2 * 0 + _ ≤ 8; omega) hd hf2) (fun v hv => by cases hv; rw [hst']; exact kk) (fun ci q hv => by cases hv)
theorem zr_callF_t (C0 : zCx p l e R s m args below meth c D B0 nL own cc E fr lo ret mn) {idx L n cnt : Nat} {x y : MethodName} {b9 : ByteArray} {rt : Option FieldType} {b : Nat} {As : List Value} {fr' lo' : Nat} {ci9 q9 : Nat}  {C : String} {T : u_T} {N ci : Nat} (cv : zCF own idx C x y b9 L rt n) (hc : zCl[ci]? = some (C, T, N)) (hb : isO h b ci = true) (hM : zMet l y (ws_ y b9 L rt) fr' lo' D B0 E (.ref b :: As) h (.inr (ci9, q9)) h1) (hfr : fr' + 1 ≤ fr) (hlo : 8 + (L + 11) + lo' ≤ lo) (hn : As.length = n) (hst : As.reverse ++ .ref b :: rest = st) (hW : (rest.map fun v => v.category).sum ≤ 8) (hd : decode cc pc = .ok (.invokeinterface idx cnt, 5)) (kx : zX p l e R s m args below meth c D B0 nL Q h1 pc lv ci9 q9) : zW p l e R s m args below meth c D B0 nL Q h pc lv st := by
  intro H locs ls cl sl hr hR hS hl
  subst hst
  obtain ⟨hx, hbb, hml, hown, hts, hlk, -, hf, hl0, hG, hB, -⟩ := C0
  have hRR : fr' + 1 ≤ R.frames ∧ 8 + (L + 11) + lo' ≤ R.locals := ⟨Nat.le_trans hfr hf, Nat.le_trans hlo hl0⟩
  have hf2 : (H.size - s.heap.size) + h.2.2.1 ≤ R.cells ∧ (zTot H - zTot s.heap) + h.2.2.2 ≤ R.slots := by
    obtain ⟨r1, r2, r3⟩ := hR
    have := hS.1
    exact ⟨by omega, by omega⟩
  obtain ⟨w1, w2, w3, w4, w5, w6, w7⟩ := cv
  have hgd : GoodIn lw_all (va_wsF own idx C x y (ws_ y b9 L rt)) := lw_app (by intro w hw; simp only [List.mem_cons, List.not_mem_nil, or_false] at hw; rcases hw with e | e | e | e <;> (rw [e]; assumption)) (lw_meth w5)
  obtain ⟨-, hat⟩ := hG.1.1 ci _ hc
  exact zr_after5 hr hR hS hl (vx_runF hat (cells := H.size - s.heap.size) (slots := zTot H - zTot s.heap) (H := H) (locs := locs) (g := F0 m pc ls _) (rest := rest) (As := As) ⟨hx, hbb, hml, hown, hts⟩ hM (va_cwF n hts hgd rfl rfl rfl (hG.2.2.2.1 _ w6) w7 hRR) ⟨zPre_blind, zr_recv hG hr hc hb, fun U hU hW9 => ⟨rfl, zPre_at hG hB hr hS hU hW9⟩⟩ rfl hn hl.1 rfl (by show 2 * 0 + _ ≤ 8; omega) hd hf2) (fun v hv => by cases hv) (fun ci q hv => by cases hv; exact kx)
def zCVX (own : String) (idx : Nat) (C : String) (y : MethodName) (b9 : ByteArray) (L : Nat) (rt : Option FieldType) (hh : List (Nat × Nat × Nat × Nat)) (n : Nat) : Prop := Cond.methodLink own idx y ∈ lw_all ∧ Cond.instanceMethod y ∈ lw_all ∧ Cond.selects C y y ∈ lw_all ∧ Cond.initialized C ∈ lw_all ∧ Cond.codeWith y b9 L rt hh ∈ lw_all ∧ y.cls = C ∧ (y.cls ≠ "java/lang/invoke/MethodHandle" ∧ y.cls ≠ "java/lang/invoke/VarHandle" ∧ (parseMethodDescriptor y.desc).map (fun d => d.parameters.length) = some n)
theorem zr_callVX_r (C0 : zCx p l e R s m args below meth c D B0 nL own cc E fr lo ret mn) {idx L n : Nat} {y : MethodName} {b9 : ByteArray} {rt : Option FieldType} {hh : List (Nat × Nat × Nat × Nat)} {b : Nat} {As : List Value} {fr' lo' : Nat} {v0 : Option Value}  {C : String} {T : u_T} {N ci : Nat} (cv : zCVX own idx C y b9 L rt hh n) (hc : zCl[ci]? = some (C, T, N)) (hb : isO h b ci = true) (hM : zMet l y (wsW_ y b9 L rt hh) fr' lo' D B0 E (.ref b :: As) h (.inl v0) h1) (hfr : fr' + 1 ≤ fr) (hlo : 8 + (L + 11) + lo' ≤ lo) (hn : As.length = n) (hst : As.reverse ++ .ref b :: rest = st) (hW : (rest.map fun v => v.category).sum ≤ 8) (hd : decode cc pc = .ok (.invokevirtual idx, 3)) (hst' : v0.toList ++ rest = st') (kk : zW p l e R s m args below meth c D B0 nL Q h1 (pc + 3) lv st') : zW p l e R s m args below meth c D B0 nL Q h pc lv st := by
  intro H locs ls cl sl hr hR hS hl
  subst hst
  obtain ⟨hx, hbb, hml, hown, hts, hlk, -, hf, hl0, hG, hB, -⟩ := C0
  have hRR : fr' + 1 ≤ R.frames ∧ 8 + (L + 11) + lo' ≤ R.locals := ⟨Nat.le_trans hfr hf, Nat.le_trans hlo hl0⟩
  have hf2 : (H.size - s.heap.size) + h.2.2.1 ≤ R.cells ∧ (zTot H - zTot s.heap) + h.2.2.2 ≤ R.slots := by
    obtain ⟨r1, r2, r3⟩ := hR
    have := hS.1
    exact ⟨by omega, by omega⟩
  obtain ⟨w1, w2, w3, w4, w5, w6⟩ := cv
  exact zr_after hr hR hS hl (vx_runVX (cells := H.size - s.heap.size) (slots := zTot H - zTot s.heap) (H := H) (locs := locs) (g := F0 m pc ls _) (rest := rest) (As := As) ⟨hx, hbb, hml, hown, hts⟩ hM (vx_cwVW n hts (lw_VW w1 w2 w3 w4 w5) rfl rfl rfl w6 hRR) ⟨zPre_blind, zr_recv hG hr hc hb, fun U hU hW9 => ⟨rfl, zPre_at hG hB hr hS hU hW9⟩⟩ rfl hn hl.1 rfl (by show 2 * 0 + _ ≤ 8; omega) hd hf2) (fun v hv => by cases hv; rw [hst']; exact kk) (fun ci q hv => by cases hv)
theorem zr_callVX_t (C0 : zCx p l e R s m args below meth c D B0 nL own cc E fr lo ret mn) {idx L n : Nat} {y : MethodName} {b9 : ByteArray} {rt : Option FieldType} {hh : List (Nat × Nat × Nat × Nat)} {b : Nat} {As : List Value} {fr' lo' : Nat} {ci9 q9 : Nat}  {C : String} {T : u_T} {N ci : Nat} (cv : zCVX own idx C y b9 L rt hh n) (hc : zCl[ci]? = some (C, T, N)) (hb : isO h b ci = true) (hM : zMet l y (wsW_ y b9 L rt hh) fr' lo' D B0 E (.ref b :: As) h (.inr (ci9, q9)) h1) (hfr : fr' + 1 ≤ fr) (hlo : 8 + (L + 11) + lo' ≤ lo) (hn : As.length = n) (hst : As.reverse ++ .ref b :: rest = st) (hW : (rest.map fun v => v.category).sum ≤ 8) (hd : decode cc pc = .ok (.invokevirtual idx, 3)) (kx : zX p l e R s m args below meth c D B0 nL Q h1 pc lv ci9 q9) : zW p l e R s m args below meth c D B0 nL Q h pc lv st := by
  intro H locs ls cl sl hr hR hS hl
  subst hst
  obtain ⟨hx, hbb, hml, hown, hts, hlk, -, hf, hl0, hG, hB, -⟩ := C0
  have hRR : fr' + 1 ≤ R.frames ∧ 8 + (L + 11) + lo' ≤ R.locals := ⟨Nat.le_trans hfr hf, Nat.le_trans hlo hl0⟩
  have hf2 : (H.size - s.heap.size) + h.2.2.1 ≤ R.cells ∧ (zTot H - zTot s.heap) + h.2.2.2 ≤ R.slots := by
    obtain ⟨r1, r2, r3⟩ := hR
    have := hS.1
    exact ⟨by omega, by omega⟩
  obtain ⟨w1, w2, w3, w4, w5, w6⟩ := cv
  exact zr_after hr hR hS hl (vx_runVX (cells := H.size - s.heap.size) (slots := zTot H - zTot s.heap) (H := H) (locs := locs) (g := F0 m pc ls _) (rest := rest) (As := As) ⟨hx, hbb, hml, hown, hts⟩ hM (vx_cwVW n hts (lw_VW w1 w2 w3 w4 w5) rfl rfl rfl w6 hRR) ⟨zPre_blind, zr_recv hG hr hc hb, fun U hU hW9 => ⟨rfl, zPre_at hG hB hr hS hU hW9⟩⟩ rfl hn hl.1 rfl (by show 2 * 0 + _ ≤ 8; omega) hd hf2) (fun v hv => by cases hv) (fun ci q hv => by cases hv; exact kx)
def zCSX (own : String) (idx : Nat) (y : MethodName) (b9 : ByteArray) (L : Nat) (rt : Option FieldType) (hh : List (Nat × Nat × Nat × Nat)) (n : Nat) : Prop := Cond.methodLink own idx y ∈ lw_all ∧ Cond.static y ∈ lw_all ∧ Cond.initialized y.cls ∈ lw_all ∧ Cond.codeWith y b9 L rt hh ∈ lw_all ∧ (y.cls ≠ "java/lang/invoke/MethodHandle" ∧ y.cls ≠ "java/lang/invoke/VarHandle" ∧ (parseMethodDescriptor y.desc).map (fun d => d.parameters.length) = some n)
theorem zr_callSX_r (C0 : zCx p l e R s m args below meth c D B0 nL own cc E fr lo ret mn) {idx L n : Nat} {y : MethodName} {b9 : ByteArray} {rt : Option FieldType} {hh : List (Nat × Nat × Nat × Nat)} {As : List Value} {fr' lo' : Nat} {v0 : Option Value}  (cv : zCSX own idx y b9 L rt hh n) (hM : zMet l y (wsW_ y b9 L rt hh) fr' lo' D B0 E (As) h (.inl v0) h1) (hfr : fr' + 1 ≤ fr) (hlo : 8 + (L + 11) + lo' ≤ lo) (hn : As.length = n) (hst : As.reverse ++ rest = st) (hW : (rest.map fun v => v.category).sum ≤ 8) (hd : decode cc pc = .ok (.invokestatic idx, 3)) (hst' : v0.toList ++ rest = st') (kk : zW p l e R s m args below meth c D B0 nL Q h1 (pc + 3) lv st') : zW p l e R s m args below meth c D B0 nL Q h pc lv st := by
  intro H locs ls cl sl hr hR hS hl
  subst hst
  obtain ⟨hx, hbb, hml, hown, hts, hlk, -, hf, hl0, hG, hB, -⟩ := C0
  have hRR : fr' + 1 ≤ R.frames ∧ 8 + (L + 11) + lo' ≤ R.locals := ⟨Nat.le_trans hfr hf, Nat.le_trans hlo hl0⟩
  have hf2 : (H.size - s.heap.size) + h.2.2.1 ≤ R.cells ∧ (zTot H - zTot s.heap) + h.2.2.2 ≤ R.slots := by
    obtain ⟨r1, r2, r3⟩ := hR
    have := hS.1
    exact ⟨by omega, by omega⟩
  obtain ⟨w1, w2, w3, w4, w5⟩ := cv
  exact zr_after hr hR hS hl (vx_runSX (cells := H.size - s.heap.size) (slots := zTot H - zTot s.heap) (H := H) (locs := locs) (g := F0 m pc ls _) (rest := rest) (As := As) ⟨hx, hbb, hml, hown, hts⟩ hM (vx_cwSW n hts (lw_SW w1 w2 w3 w4) rfl rfl rfl w5 hRR) ⟨zPre_blind, fun U hU hW9 => ⟨rfl, zPre_at hG hB hr hS hU hW9⟩⟩ rfl hn hl.1 rfl (by show 2 * 0 + _ ≤ 8; omega) hd hf2) (fun v hv => by cases hv; rw [hst']; exact kk) (fun ci q hv => by cases hv)
theorem zr_callSX_t (C0 : zCx p l e R s m args below meth c D B0 nL own cc E fr lo ret mn) {idx L n : Nat} {y : MethodName} {b9 : ByteArray} {rt : Option FieldType} {hh : List (Nat × Nat × Nat × Nat)} {As : List Value} {fr' lo' : Nat} {ci9 q9 : Nat}  (cv : zCSX own idx y b9 L rt hh n) (hM : zMet l y (wsW_ y b9 L rt hh) fr' lo' D B0 E (As) h (.inr (ci9, q9)) h1) (hfr : fr' + 1 ≤ fr) (hlo : 8 + (L + 11) + lo' ≤ lo) (hn : As.length = n) (hst : As.reverse ++ rest = st) (hW : (rest.map fun v => v.category).sum ≤ 8) (hd : decode cc pc = .ok (.invokestatic idx, 3)) (kx : zX p l e R s m args below meth c D B0 nL Q h1 pc lv ci9 q9) : zW p l e R s m args below meth c D B0 nL Q h pc lv st := by
  intro H locs ls cl sl hr hR hS hl
  subst hst
  obtain ⟨hx, hbb, hml, hown, hts, hlk, -, hf, hl0, hG, hB, -⟩ := C0
  have hRR : fr' + 1 ≤ R.frames ∧ 8 + (L + 11) + lo' ≤ R.locals := ⟨Nat.le_trans hfr hf, Nat.le_trans hlo hl0⟩
  have hf2 : (H.size - s.heap.size) + h.2.2.1 ≤ R.cells ∧ (zTot H - zTot s.heap) + h.2.2.2 ≤ R.slots := by
    obtain ⟨r1, r2, r3⟩ := hR
    have := hS.1
    exact ⟨by omega, by omega⟩
  obtain ⟨w1, w2, w3, w4, w5⟩ := cv
  exact zr_after hr hR hS hl (vx_runSX (cells := H.size - s.heap.size) (slots := zTot H - zTot s.heap) (H := H) (locs := locs) (g := F0 m pc ls _) (rest := rest) (As := As) ⟨hx, hbb, hml, hown, hts⟩ hM (vx_cwSW n hts (lw_SW w1 w2 w3 w4) rfl rfl rfl w5 hRR) ⟨zPre_blind, fun U hU hW9 => ⟨rfl, zPre_at hG hB hr hS hU hW9⟩⟩ rfl hn hl.1 rfl (by show 2 * 0 + _ ≤ 8; omega) hd hf2) (fun v hv => by cases hv) (fun ci q hv => by cases hv; exact kx)
theorem zr_iret (C0 : zCx p l e R s m args below meth c D B0 nL own cc E fr lo ret mn) {x : Int32} {ty : FieldType} {o : zO} (hrt0 : ret = some ty) (hn : narrow ty (.int x) = .int x) (hd : decode cc pc = .ok (.ireturn, 1)) (ho : .inl (some (.int x)) = o) : zW p l e R s m args below meth c D B0 nL (zEnd D B0 R below args s o h) h pc lv [.int x] := by
  intro H locs ls cl sl hr hR hS hl
  subst ho
  obtain ⟨hx, hbb, hml, hown, hts, hlk, -, -, -, hG, hB, hrt, -⟩ := C0
  refine vx_ret (W_room hR ?_)
  exact W.zret (v := x) hx hbb (hrt.trans hrt0) hn (fun t ht hW => ⟨_, rfl, rfl, ⟨by rw [ht]; exact hr.alike hW.alike, by rw [ht]; exact hR.1, by rw [ht]; exact hR.2.1, by rw [ht]; exact hR.2.2, by rw [ht]; exact hS.1, fun q h1 h2 => by rw [ht]; exact hS.2.1 q h1 h2⟩⟩) hS.2.2 hd
theorem zr_lret (C0 : zCx p l e R s m args below meth c D B0 nL own cc E fr lo ret mn) {x : Int64} {o : zO} (hrt0 : ret = some .long) (hd : decode cc pc = .ok (.lreturn, 1)) (ho : .inl (some (.long x)) = o) : zW p l e R s m args below meth c D B0 nL (zEnd D B0 R below args s o h) h pc lv [.long x] := by
  intro H locs ls cl sl hr hR hS hl
  subst ho
  obtain ⟨hx, hbb, hml, hown, hts, hlk, -, -, -, hG, hB, hrt, -⟩ := C0
  refine vx_ret (W_room hR ?_)
  exact W.lret hx hbb (hrt.trans hrt0) (fun t ht hW => ⟨_, rfl, rfl, ⟨by rw [ht]; exact hr.alike hW.alike, by rw [ht]; exact hR.1, by rw [ht]; exact hR.2.1, by rw [ht]; exact hR.2.2, by rw [ht]; exact hS.1, fun q h1 h2 => by rw [ht]; exact hS.2.1 q h1 h2⟩⟩) hS.2.2 hd
theorem zr_vret (C0 : zCx p l e R s m args below meth c D B0 nL own cc E fr lo ret mn)  {o : zO} (hrt0 : ret = none) (hd : decode cc pc = .ok (.return_, 1)) (ho : .inl none = o) : zW p l e R s m args below meth c D B0 nL (zEnd D B0 R below args s o h) h pc lv [] := by
  intro H locs ls cl sl hr hR hS hl
  subst ho
  obtain ⟨hx, hbb, hml, hown, hts, hlk, -, -, -, hG, hB, hrt, -⟩ := C0
  refine vx_ret (W_room hR ?_)
  exact W.vret hx hbb (hrt.trans hrt0) (fun t ht hW => ⟨_, rfl, rfl, ⟨by rw [ht]; exact hr.alike hW.alike, by rw [ht]; exact hR.1, by rw [ht]; exact hR.2.1, by rw [ht]; exact hR.2.2, by rw [ht]; exact hS.1, fun q h1 h2 => by rw [ht]; exact hS.2.1 q h1 h2⟩⟩) hS.2.2 hd
theorem zr_aret (C0 : zCx p l e R s m args below meth c D B0 nL own cc E fr lo ret mn) {x : Nat} {rt : FieldType} {o : zO} (hrt0 : ret = some rt) (hk : (∃ n, rt = .object n) ∨ ∃ t, rt = .array t) (hd : decode cc pc = .ok (.areturn, 1)) (ho : .inl (some (.ref x)) = o) : zW p l e R s m args below meth c D B0 nL (zEnd D B0 R below args s o h) h pc lv [.ref x] := by
  intro H locs ls cl sl hr hR hS hl
  subst ho
  obtain ⟨hx, hbb, hml, hown, hts, hlk, -, -, -, hG, hB, hrt, -⟩ := C0
  refine vx_ret (W_room hR ?_)
  exact W.aret hx hbb (hrt.trans hrt0) hk (Or.inr ⟨_, rfl⟩) (fun t ht hW => ⟨_, rfl, rfl, ⟨by rw [ht]; exact hr.alike hW.alike, by rw [ht]; exact hR.1, by rw [ht]; exact hR.2.1, by rw [ht]; exact hR.2.2, by rw [ht]; exact hS.1, fun q h1 h2 => by rw [ht]; exact hS.2.1 q h1 h2⟩⟩) hS.2.2 hd
theorem zr_aretQ (C0 : zCx p l e R s m args below meth c D B0 nL own cc E fr lo ret mn) {x : Option Nat} {rt : FieldType} {o : zO} (hrt0 : ret = some rt) (hk : (∃ n, rt = .object n) ∨ ∃ t, rt = .array t) (hd : decode cc pc = .ok (.areturn, 1)) (ho : .inl (some (va_rf x)) = o) : zW p l e R s m args below meth c D B0 nL (zEnd D B0 R below args s o h) h pc lv [va_rf x] := by
  intro H locs ls cl sl hr hR hS hl
  subst ho
  obtain ⟨hx, hbb, hml, hown, hts, hlk, -, -, -, hG, hB, hrt, -⟩ := C0
  refine vx_ret (W_room hR ?_)
  exact W.aret hx hbb (hrt.trans hrt0) hk (by cases x with | none => exact Or.inl rfl | some y => exact Or.inr ⟨_, rfl⟩) (fun t ht hW => ⟨_, rfl, rfl, ⟨by rw [ht]; exact hr.alike hW.alike, by rw [ht]; exact hR.1, by rw [ht]; exact hR.2.1, by rw [ht]; exact hR.2.2, by rw [ht]; exact hS.1, fun q h1 h2 => by rw [ht]; exact hS.2.1 q h1 h2⟩⟩) hS.2.2 hd
theorem zr_athrow (C0 : zCx p l e R s m args below meth c D B0 nL own cc E fr lo ret mn) {ci q : Nat} (hd : decode cc pc = .ok (.athrow, 1)) (hq : ∃ fs, h.1 q = some (true, .inr (ci, fs))) (kx : zX p l e R s m args below meth c D B0 nL Q h pc lv ci q) : zW p l e R s m args below meth c D B0 nL Q h pc lv (.ref q :: rest) := fun H locs ls cl sl hr hR hS hl => vx_athrow C0.1 C0.2.1 hd (kx hq H locs ls cl sl rest hr hR hS hl)
/-- thrown on, out of a method without handlers -/
theorem zr_out (C0 : zCx p l e R s m args below meth c D B0 nL own cc E fr lo ret mn) {ci q : Nat} {o : zO} (hno : ∀ x ∈ c.exceptionTable.toList, False) (ho : .inr (ci, q) = o) : zX p l e R s m args below meth c D B0 nL (zEnd D B0 R below args s o h) h pc lv ci q := by
  intro hq H locs ls cl sl rest hr hR hS hl
  subst ho
  obtain ⟨hx, hbb, hml, hown, hts, hlk, -, -, -, hG, hB, hrt, -⟩ := C0
  obtain ⟨fs, hh⟩ := hq
  obtain ⟨cell, q1, q2, q3, q0, r, h1, q4, -⟩ := hr.2 q true _ hh
  have := hS.1
  obtain ⟨r1, r2, r3⟩ := hR
  refine fun T hT X => (vx_out (H := H) (mc := R.cells) (ms := R.slots) (cells := H.size - s.heap.size) (slots := zTot H - zTot s.heap) (E := r.1) (ce := cell) (fun x hx => (hno x hx).elim) hlk q1 (q0 rfl).1 (by rw [q4]; exact (hG.1.1 ci r h1).2.1) (fun t ht hA => ⟨ci, r, rfl, h1, rfl, ⟨fs, hh⟩, ⟨by rw [ht]; exact hr.alike hA, by rw [ht]; exact r1, by rw [ht]; exact r2, by rw [ht]; exact r3, by rw [ht]; exact hS.1, fun q h1 h2 => by rw [ht]; exact hS.2.1 q h1 h2⟩⟩) hS.2.2 (by omega) (by omega)) T hT (stand_tight hT X)
theorem zr_catch (C0 : zCx p l e R s m args below meth c D B0 nL own cc E fr lo ret mn) {ci q : Nat} {name : String} {r9 : vw_C} (pre : List ExceptionTableEntry) (x : ExceptionTableEntry) (suf : List ExceptionTableEntry) (hsplit : c.exceptionTable.toList = pre ++ x :: suf) (hci : zCl[ci]? = some r9)
    (hpass : ∀ z ∈ pre, covers z pc = false ∨ (z.catchType ≠ 0 ∧ ∃ nm : String, Cond.classLink own z.catchType nm ∈ lw_all ∧ (r9.1, nm) ∈ zNcs)) (hx : covers x pc = true) (h0 : x.catchType ≠ 0) (hlink : Cond.classLink own x.catchType name ∈ lw_all) (hcast : Cond.castable r9.1 name ∈ lw_tbl)
    (kk : zW p l e R s m args below meth c D B0 nL Q h x.handlerPc lv [.ref q]) : zX p l e R s m args below meth c D B0 nL Q h pc lv ci q := by
  intro hq H locs ls cl sl rest hr hR hS hl
  obtain ⟨hx9, hbb, hml, hown, hts, hlk, -, -, -, hG, hB, hrt, -⟩ := C0
  obtain ⟨fs, hh⟩ := hq
  obtain ⟨cell, q1, q2, q3, q0, r, h1, q4, -⟩ := hr.2 q true _ hh
  have hrr : r = r9 := Option.some.inj (h1.symm.trans hci)
  subst hrr
  exact vx_catch (E := r.1) (ce := cell) hown pre x suf hsplit (fun z hz => (hpass z hz).imp id (fun ⟨a1, nm, a2, a3⟩ => ⟨a1, nm, hts _ a2, hG.2.2.2.2.1 _ a3⟩)) hx h0 (hts _ hlink) (va_Nw.use rfl (hG.2.1 _ hcast rfl)) q1 (q0 rfl).1 (by rw [q4]; exact (hG.1.1 ci r hci).2.1) (kk H locs ls cl sl hr hR hS hl)
/-- thrown on, past handlers that don't take it -/
theorem zr_outP (C0 : zCx p l e R s m args below meth c D B0 nL own cc E fr lo ret mn) {ci q : Nat} {o : zO} {r9 : vw_C} (hci : zCl[ci]? = some r9) (hpass : ∀ z ∈ c.exceptionTable.toList, covers z pc = false ∨ (z.catchType ≠ 0 ∧ ∃ nm : String, Cond.classLink own z.catchType nm ∈ lw_all ∧ (r9.1, nm) ∈ zNcs)) (ho : .inr (ci, q) = o) : zX p l e R s m args below meth c D B0 nL (zEnd D B0 R below args s o h) h pc lv ci q := by
  intro hq H locs ls cl sl rest hr hR hS hl
  subst ho
  obtain ⟨hx, hbb, hml, hown, hts, hlk, -, -, -, hG, hB, hrt, -⟩ := C0
  obtain ⟨fs, hh⟩ := hq
  obtain ⟨cell, q1, q2, q3, q0, r, h1, q4, -⟩ := hr.2 q true _ hh
  have hrr : r = r9 := Option.some.inj (h1.symm.trans hci)
  subst hrr
  have := hS.1
  obtain ⟨r1, r2, r3⟩ := hR
  refine fun T hT X => (vx_outP (H := H) (own := own) (mc := R.cells) (ms := R.slots) (cells := H.size - s.heap.size) (slots := zTot H - zTot s.heap) (E := r.1) (ce := cell) hown hlk (fun z hz => (hpass z hz).imp id (fun ⟨a1, nm, a2, a3⟩ => ⟨a1, nm, hts _ a2, hG.2.2.2.2.1 _ a3⟩)) q1 (q0 rfl).1 (by rw [q4]; exact (hG.1.1 ci r h1).2.1) (fun t ht hA => ⟨ci, r, rfl, h1, rfl, ⟨fs, hh⟩, ⟨by rw [ht]; exact hr.alike hA, by rw [ht]; exact r1, by rw [ht]; exact r2, by rw [ht]; exact r3, by rw [ht]; exact hS.1, fun q h1 h2 => by rw [ht]; exact hS.2.1 q h1 h2⟩⟩) hS.2.2 (by omega) (by omega)) T hT (stand_tight hT X)
end ZR5
/-- a method's contract out of the walk from its entry -/
theorem zMet_of {l : Launch} {y : MethodName} {fr lo : Nat} {D : zD} {B0 : Nat} {E : zE} {av : List Value} {h h' : zH} {o : zO} {cc : ByteArray} {maxL : Nat} {ret : Option FieldType} {mn own : String} (hst : l.stackTraces = false) (hy : plainName y.cls = true) (hown : y.cls = own) (hmn : y.name = mn) (hlen : (lg_sl av).length ≤ maxL)
    (body : ∀ p e R s m below meth c, zCx p l e R s m av.toArray below meth c D B0 maxL own cc E fr lo ret mn → (∀ x ∈ c.exceptionTable.toList, False) → zW p l e R s m av.toArray below meth c D B0 maxL (zEnd D B0 R below av.toArray s o h') h 0 (lv_args 0 av) []) : zMet l y (ws_ y cc maxL ret) fr lo D B0 E av h o h' := by
  refine vx_ofW (cc := cc) (maxL := maxL) (ret := ret) hy rfl ?_
  intro p e s m args0 below meth c s₁ B hml hno hv
  obtain ⟨rfl, hr, hG, hB0⟩ := hv
  have hts := atoms_spec (ws := ws_ y cc maxL ret) B.pre
  have hts : ∀ w ∈ lw_all, w.before _ s = true := fun w h => hts w (List.mem_cons_of_mem _ h)
  have hl := lv_entry av (n := maxL) hlen
  rw [lg_entry_eq]
  exact body p e _ s m below meth c ⟨B.exec, B.bytes, hml, by rw [← hown]; exact findClass_of_methodNamed B.named, hts, B.notSynchronized, hst, Nat.le_refl _, Nat.le_refl _, hG, hB0, B.returns, by rw [← hmn]; exact (name_of_methodNamed B.named B.method).1⟩ hno s.heap [] _ 0 0 hr ⟨Nat.le_refl _, Nat.le_refl _, Nat.le_refl _⟩ va_S.rf hl
theorem zMet_ofH {l : Launch} {y : MethodName} {fr lo : Nat} {D : zD} {B0 : Nat} {E : zE} {av : List Value} {h h' : zH} {o : zO} {cc : ByteArray} {maxL : Nat} {ret : Option FieldType} {mn own : String} {hh : List (Nat × Nat × Nat × Nat)} (hst : l.stackTraces = false) (hy : plainName y.cls = true) (hown : y.cls = own) (hmn : y.name = mn) (hlen : (lg_sl av).length ≤ maxL)
    (body : ∀ p e R s m below meth c, zCx p l e R s m av.toArray below meth c D B0 maxL own cc E fr lo ret mn → c.exceptionTable.toList = tableOf hh → zW p l e R s m av.toArray below meth c D B0 maxL (zEnd D B0 R below av.toArray s o h') h 0 (lv_args 0 av) []) : zMet l y (wsW_ y cc maxL ret hh) fr lo D B0 E av h o h' := by
  refine vx_ofWH (cc := cc) (maxL := maxL) (ret := ret) hy rfl ?_
  intro p e s m args0 below meth c s₁ B hml hv
  obtain ⟨rfl, hr, hG, hB0⟩ := hv
  have hts0 := atoms_spec (ws := wsW_ y cc maxL ret hh) B.pre
  have hts : ∀ w ∈ lw_all, w.before _ s = true := fun w h => hts0 w (List.mem_cons_of_mem _ h)
  have hl := lv_entry av (n := maxL) hlen
  rw [lg_entry_eq]
  exact body p e _ s m below meth c ⟨B.exec, B.bytes, hml, by rw [← hown]; exact findClass_of_methodNamed B.named, hts, B.notSynchronized, hst, Nat.le_refl _, Nat.le_refl _, hG, hB0, B.returns, by rw [← hmn]; exact (name_of_methodNamed B.named B.method).1⟩ (vx_table (x := y) B (hts0 _ List.mem_cons_self)) s.heap [] _ 0 0 hr ⟨Nat.le_refl _, Nat.le_refl _, Nat.le_refl _⟩ va_S.rf hl

