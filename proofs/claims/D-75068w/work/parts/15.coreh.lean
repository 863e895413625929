/-! CALLS: overridden, private of the superclass, a default method; arrays of arrays; statics of which little is known -/
set_option maxRecDepth 100000
/-- the method that the reference names is there: by its code, or by a word -/
def zDc (y : MethodName) : Prop := (∃ b0 m0 r0, Cond.instanceMethod y ∈ lw_all ∧ Cond.code y b0 m0 r0 ∈ lw_all) ∨ Cond.declares y ∈ lw_tbl
def zCO (own : String) (idx : Nat) (C owner : String) (x y : MethodName) (b9 : ByteArray) (L : Nat) (rt : Option FieldType) (n : Nat) : Prop := Cond.methodLink own idx x ∈ lw_all ∧ Cond.sameMethod x.cls owner x.name x.desc ∈ lw_all ∧ (Cond.selects C x y ∈ lw_all ∨ (x = y ∧ (C, y) ∈ zSels)) ∧ Cond.instanceMethod y ∈ lw_all ∧ Cond.initialized y.cls ∈ lw_all ∧ Cond.code y b9 L rt ∈ lw_all ∧ zDc ⟨owner, x.name, x.desc⟩ ∧ (owner ≠ "java/lang/invoke/MethodHandle" ∧ owner ≠ "java/lang/invoke/VarHandle" ∧ (parseMethodDescriptor x.desc).map (fun d => d.parameters.length) = some n)
section ZR8
variable {p : Program} {l : Launch} {e : Env} {R : Room} {s : State} {m : MethodId} {args : Array Value} {below : List Frame} {meth : Method} {c : Code} {Q : State → Prop} {D : zD} {B0 nL : Nat} {own : String} {cc : ByteArray} {E : zE} {fr lo : Nat} {ret : Option FieldType} {mn : String} {h h1 : zH} {pc : Nat} {lv : List (Nat × Value)} {rest st st' : List Value}
theorem zr_callO_r (C0 : zCx p l e R s m args below meth c D B0 nL own cc E fr lo ret mn) {idx L n : Nat} {x y : MethodName} {owner : String} {b9 : ByteArray} {rt : Option FieldType} {b : Nat} {As : List Value} {fr' lo' : Nat} {v0 : Option Value} {C : String} {T : u_T} {N ci : Nat} (cv : zCO own idx C owner x y b9 L rt n) (hc : zCl[ci]? = some (C, T, N)) (hb : isO h b ci = true) (hM : zMet l y (ws_ y b9 L rt) fr' lo' D B0 E (.ref b :: As) h (.inl v0) h1) (hfr : fr' + 1 ≤ fr) (hlo : 8 + (L + 11) + lo' ≤ lo) (hn : As.length = n) (hst : As.reverse ++ .ref b :: rest = st) (hW : (rest.map fun v => v.category).sum ≤ 8) (hd : decode cc pc = .ok (.invokevirtual idx, 3)) (hst' : v0.toList ++ rest = st') (kk : zW p l e R s m args below meth c D B0 nL Q h1 (pc + 3) lv st') : zW p l e R s m args below meth c D B0 nL Q h pc lv st := by
  intro H locs ls cl sl hr hR hS hl
  subst hst
  obtain ⟨hx, hbb, hml, hown, hts, hlk, -, hf, hl0, hG, hB, -⟩ := C0
  have hRR : fr' + 1 ≤ R.frames ∧ 8 + (L + 11) + lo' ≤ R.locals := ⟨Nat.le_trans hfr hf, Nat.le_trans hlo hl0⟩
  have hf2 : (H.size - s.heap.size) + h.2.2.1 ≤ R.cells ∧ (zTot H - zTot s.heap) + h.2.2.2 ≤ R.slots := by
    obtain ⟨r1, r2, r3⟩ := hR
    have := hS.1
    exact ⟨by omega, by omega⟩
  obtain ⟨w1, w2, w3, w4, w5, w6, w7, w8⟩ := cv
  have hsel : (Cond.selects C x y).before args s = true := by
    rcases w3 with w | ⟨rfl, w⟩
    · exact hts _ w
    · exact va_tabs rfl (rfl : s.vm = s.vm) (hG.2.2.2.2.2.2.2.2.2.2.2.2.1 _ w)
  have hdc : va_Decl s ⟨owner, x.name, x.desc⟩ := by
    rcases w7 with ⟨b0, m0, r0, a1, a2⟩ | a
    · exact va_Decl.of (hts _ a1) (hts _ a2)
    · obtain ⟨r0, r, q1, q2, q3, q4⟩ := Cond.declares_spec (args := args) (va_Nw.use rfl (hG.2.1 _ a rfl))
      exact ⟨r0, r, q1, q2, q3, q4⟩
  have hlen : ∀ sig, parseMethodDescriptor x.desc = some sig → n = sig.parameters.length := by
    intro sig hs
    have h2 := w8.2.2
    rw [hs] at h2
    exact (Option.some.inj h2).symm
  exact zr_after hr hR hS hl (vx_runU (owner := owner) (x := x) (C := C) (cells := H.size - s.heap.size) (slots := zTot H - zTot s.heap) (H := H) (locs := locs) (g := F0 m pc ls _) (rest := rest) (As := As) ⟨hx, hbb, hml, hown, hts⟩ hM ⟨⟨rfl, rfl, hRR.1, hRR.2, pay_in hts (lw_meth w6), List.mem_cons_self⟩, hts _ w6, hts _ w5, ⟨w8.1, w8.2.1⟩, hlen, hts _ w1, hts _ w2, hdc, hsel, hts _ w4⟩ ⟨zPre_blind, zr_recv hG hr hc hb, fun U hU hW9 => ⟨rfl, zPre_at hG hB hr hS hU hW9⟩⟩ rfl hn hl.1 rfl (by show 2 * 0 + _ ≤ 8; omega) hd hf2) (fun v hv => by cases hv; rw [hst']; exact kk) (fun ci q hv => by cases hv)
/-- Rate.of, Rated's default -/
theorem zr_callD_r (C0 : zCx p l e R s m args below meth c D B0 nL own cc E fr lo ret mn) {idx b fr' lo' : Nat} {As : List Value} {v0 : Option Value} (hw : Cond.methodLink own idx ⟨"FranchiseLedger$Rate", "of", "(J)J"⟩ ∈ zDws) (hb : isO h b 3 = true) (hM : zMet l yX16_of (ws_ yX16_of cX16_of 3 (Option.some Jvm.ClassFile.FieldType.long)) fr' lo' D B0 E (.ref b :: As) h (.inl v0) h1) (hfr : fr' + 1 ≤ fr) (hlo : 8 + (3 + 11) + lo' ≤ lo) (hn : As.length = 1) (hst : As.reverse ++ .ref b :: rest = st) (hW : (rest.map fun v => v.category).sum ≤ 8) (hd : decode cc pc = .ok (.invokevirtual idx, 3)) (hst' : v0.toList ++ rest = st') (kk : zW p l e R s m args below meth c D B0 nL Q h1 (pc + 3) lv st') : zW p l e R s m args below meth c D B0 nL Q h pc lv st := by
  intro H locs ls cl sl hr hR hS hl
  subst hst
  obtain ⟨hx, hbb, hml, hown, hts, hlk, -, hf, hl0, hG, hB, -⟩ := C0
  have hRR : fr' + 1 ≤ R.frames ∧ 8 + (3 + 11) + lo' ≤ R.locals := ⟨Nat.le_trans hfr hf, Nat.le_trans hlo hl0⟩
  have hf2 : (H.size - s.heap.size) + h.2.2.1 ≤ R.cells ∧ (zTot H - zTot s.heap) + h.2.2.2 ≤ R.slots := by
    obtain ⟨r1, r2, r3⟩ := hR
    have := hS.1
    exact ⟨by omega, by omega⟩
  have hDf : zDf s := hG.2.2.2.2.2.2.2.2.2.2.2.2.2.2.2
  have hwx : ∀ w ∈ zDws, w.before args s = true := by
    have hx9 : ∀ w ∈ zDws, w.onTables = true := by decide +kernel
    exact fun w hw => va_tabs (hx9 w hw) (rfl : s.vm = s.vm) (hDf.1 w hw)
  have hland : (Cond.landsInDefault "FranchiseLedger$Rate" ⟨"FranchiseLedger$Rate", "of", "(J)J"⟩ ⟨"FranchiseLedger$Rated", "of", "(J)J"⟩).before args s = true := by
    have h2 := hDf.2
    unfold Cond.before Cond.holds at h2 ⊢
    simp only [Cond.value] at h2 ⊢
    exact h2
  have hBk := vx_back (l := l) (R := R) (p := p) (e := e) (below := below) (s := s) (sargs := args) (len := 3) (W9 := 8) (bytes := cX16_of) (maxL := 3) (ret := (Option.some Jvm.ClassFile.FieldType.long)) hM zPre_blind rfl rfl hRR.1 hRR.2 (pay_in hts (lw_meth q1971)) List.mem_cons_self (fun a' U hW => word_at hW (Or.inl rfl) (hts _ q174))
  have hK : Back l R p e below s args yX16_of 3 8 (PreOf R h.2.2.1 h.2.2.2 (va_Pc (.ref b :: As) (zPre D B0 E h))) (PostOf (zQc D B0 h.2.2.1 h.2.2.2 (.inl v0) h1) h.2.2.1 h.2.2.2 (fun q => B0 ≤ q)) := by
    intro m9 meth9 c9 A g ig mk a X a1 a2 a3 a4 a5 a6
    rcases hBk m9 meth9 c9 A g ig mk a X a1 a2 a3 a4 a5 a6 with ok | ⟨q, B, X', ⟨g', mk', t, L, E9, ce, -, -, ⟨ci9, r9, ho, -⟩, -⟩, -⟩
    · exact ok
    · cases ho
  refine zr_after (o := .inl v0) (h1 := h1) (a9 := (Value.ref b :: As).toArray) hr hR hS hl (fun T hT X => ?_) (fun v hv => by cases hv; rw [hst']; exact kk) (fun ci q hv => by cases hv)
  obtain ⟨cellB, b1, b2, b3⟩ := zr_recv hG hr (ci := 3) rfl hb
  obtain ⟨v, vm₁, ⟨U', l2, c2, s2⟩, hW₁, X', ⟨g', mk, t, L, e1, e2, hq, h1, hL, h2, h3⟩, stp⟩ := X.virtualBackUpD hx (owner := "FranchiseLedger$Rated") hown (hwx _ hw) (hwx _ (by decide +kernel)) (va_Nw.use rfl (hG.2.1 _ q1967 rfl)) (by decide) hland (hts _ q1969) hK b3 ⟨cellB, by rw [hT]; exact b1, rfl, b2⟩ (g := F0 m pc ls _) rfl (hl.1.trans hml.symm) (Steps.refl _) (argsL := As) (rest := rest) (fun sig hs => by
    have h9 : (parseMethodDescriptor "(J)J").map (fun d => d.parameters.length) = some 1 := by decide +kernel
    rw [hs] at h9
    exact hn.trans (Option.some.inj h9).symm) rfl (by show 2 * 0 + _ ≤ 8; omega) (by rw [hbb]; exact hd) (fun vm₁ hW₁ => ⟨hf2.1, hf2.2, rfl, zPre_at hG hB hr hS hT hW₁⟩)
  dsimp only [Pt.U, Pt.locs, Pt.cells, Pt.slots] at X' e1 e2 h1 h2 h3 stp
  subst h1; subst h2; subst h3
  exact Or.inl ⟨v, (T.setVm vm₁).calling g' mk _, t, U', L, hT, X', hL, e1, e2, hq, fun tg hg => stp.trans hg⟩
theorem zr_getsQ (C0 : zCx p l e R s m args below meth c D B0 nL own cc E fr lo ret mn) {i idx : Nat} {q : String × String × String} (hi : zStqs[i]? = some q) (hlink : Cond.fieldLink own idx q.1 q.2.1 q.2.2 ∈ lw_all) (hd : decode cc pc = .ok (.getstatic idx, 3)) (kk : zW p l e R s m args below meth c D B0 nL Q h (pc + 3) lv (va_rf (E.2.2 (10 + i)) :: rest)) : zW p l e R s m args below meth c D B0 nL Q h pc lv rest := zr_gets C0 (C0.2.2.2.2.2.2.2.2.2.1.2.2.2.2.2.2.2.2.2.2.2.2.2.1 i q hi) hlink hd kk
theorem zr_multi (C0 : zCx p l e R s m args below meth c D B0 nL own cc E fr lo ret mn) {idx q : Nat} {n k : Int32} (hlink : Cond.classLink own idx "[[J" ∈ lw_all) (hd : decode cc pc = .ok (.multianewarray idx 2, 4)) (hv : nM h n k = some (q, h1)) (kk : zW p l e R s m args below meth c D B0 nL Q h1 (pc + 4) lv (.ref q :: rest)) : zW p l e R s m args below meth c D B0 nL Q h pc lv (.int k :: .int n :: rest) := by
  unfold nM at hv
  split at hv
  · rename_i hc
    obtain ⟨c1, c2, c3, c4, c5, c6⟩ := hc
    cases hv
    obtain ⟨hx, hb, hml, hown, hts, hlk, -, hf, hl0, hG, hB, -⟩ := C0
    intro H locs ls cl sl hr hR hS hl T hT X0
    have X := stand_tight hT X0
    obtain ⟨vm₁, cA, comp, hW1, f1, f2, hO, hI, X', step⟩ := X.multianewarray2F hx (ty := .long) hown (hts _ hlink) (hG.2.1 _ q629 rfl) (hts _ q661) (g := F0 m pc ls (.int k :: .int n :: rest)) rfl (by rw [hb]; exact hd) (n := n) (k := k) (rest := rest) rfl c1 c2 (by omega) (by show _ * 8 ≤ _; omega) (by omega) rfl rfl (by have := hR.1; have := hS.1; omega) (by have := hR.2; omega)
    generalize hF : Jvm.Free.Multi.fill (T.setVm vm₁) cA comp n.toNatClampNeg k.toNatClampNeg (defaultValue .long) n.toNatClampNeg = F at X' step
    have hT9 : (T.setVm vm₁).heap = H := hT
    have g1 : F.heap.size = H.size + 1 + n.toNatClampNeg := by rw [← hF, (Jvm.Free.Multi.fill_facts (T.setVm vm₁) cA comp n.toNatClampNeg k.toNatClampNeg (defaultValue .long) n.toNatClampNeg).1, hT9]
    have g2 : F.heap[H.size]? = some (Jvm.Free.Multi.outerC cA n.toNatClampNeg H.size n.toNatClampNeg) := by
      have := (Jvm.Free.Multi.fill_facts (T.setVm vm₁) cA comp n.toNatClampNeg k.toNatClampNeg (defaultValue .long) n.toNatClampNeg).2.1
      rw [hF, hT9] at this
      exact this
    have g3 : ∀ a, a < H.size → F.heap[a]? = H[a]? := by
      intro a ha
      have := Jvm.Free.Multi.fill_old (T.setVm vm₁) cA comp n.toNatClampNeg k.toNatClampNeg (defaultValue .long) (a := a) (by rw [hT9]; exact ha) n.toNatClampNeg
      rw [hF, hT9] at this
      exact this
    have g4 : ∀ j, j < n.toNatClampNeg → F.heap[H.size + 1 + j]? = some (Jvm.Free.Multi.innerC comp k.toNatClampNeg (defaultValue .long)) := by
      intro j hj
      have := Jvm.Free.Multi.fill_inner (T.setVm vm₁) cA comp n.toNatClampNeg k.toNatClampNeg (defaultValue .long) n.toNatClampNeg j hj
      rw [hF, hT9] at this
      exact this
    obtain ⟨s1, s2, s3⟩ := stand_tot X'
    have hcA : cA = D.2.2 5 := Option.some.inj (f1.symm.trans (zArrNm hG (t := 5) (by decide) rfl))
    have hcC : comp = D.2.2 1 := Option.some.inj (f2.symm.trans (zArrNm hG (t := 1) (by decide) rfl))
    have hout : Jvm.Free.Multi.outerC cA n.toNatClampNeg H.size n.toNatClampNeg = arrV (D.2.2 5) n.toNatClampNeg (zv (.inr (.inr fun i => if i < n.toNatClampNeg then some (H.size + 1 + i) else none))) := by
      have key : ∀ i, Jvm.Free.Multi.outerC cA n.toNatClampNeg H.size i = arrV cA n.toNatClampNeg (fun j => va_rf (if j < i then some (H.size + 1 + j) else none)) := by
        intro i
        induction i with
        | zero => exact arrV_new cA _ _
        | succ i ih =>
          show (Jvm.Free.Multi.outerC cA n.toNatClampNeg H.size i).setSlot i _ = _
          rw [ih, arrV_store]
          congr 1
          funext j
          by_cases hj : j = i
          · subst hj
            simp [updV, va_rf]
          · by_cases h9 : j < i
            · simp [updV, hj, h9, Nat.lt_succ_of_lt h9]
            · simp [updV, hj, h9, show ¬ j < i + 1 by omega]
      rw [key, hcA]
      rfl
    have hin : Jvm.Free.Multi.innerC comp k.toNatClampNeg (defaultValue .long) = arrV (D.2.2 1) k.toNatClampNeg (zv (.inr (.inl fun _ => 0))) := by
      rw [hcC]
      exact arrV_new _ _ _
    have hq : h.2.1 = H.size := hr.1
    have hB1 : B0 ≤ H.size := Nat.le_trans hB hS.1
    have hrel : zRel D B0 s ((fun a => if a = h.2.1 then some (true, .inl (5, n.toNatClampNeg, .inr (.inr fun i => if i < n.toNatClampNeg then some (h.2.1 + 1 + i) else none))) else if h.2.1 < a ∧ a ≤ h.2.1 + n.toNatClampNeg then some (true, .inl (1, k.toNatClampNeg, .inr (.inl fun _ => 0))) else h.1 a), (h.2.1 + 1 + n.toNatClampNeg, (h.2.2.1 - (1 + n.toNatClampNeg), h.2.2.2 - (n.toNatClampNeg + n.toNatClampNeg * k.toNatClampNeg)))) F.heap := by
      rw [hq]
      refine ⟨g1.symm, fun a b e9 he => ?_⟩
      dsimp only at he
      split at he
      · rename_i ha
        cases he
        subst ha
        refine ⟨_, g2, by rw [hout]; rfl, (by rw [hout]; exact fun q => (by cases q)), fun _ => ⟨by rw [hout]; rfl, hB1⟩, (hO _ _ _).1, by rw [hout]; exact arrV_size _ _ _, fun j hj => by rw [hout]; exact arrV_read _ _ hj, fun j hj => ?_, fun _ => ⟨hout, (show 5 < 7 by decide)⟩⟩
        show fits (.array .long) (va_rf _) = true
        exact zfit_rfA _ _
      · split at he
        · rename_i h1 h2
          cases he
          obtain ⟨j, rfl⟩ : ∃ j, a = H.size + 1 + j := ⟨a - (H.size + 1), by omega⟩
          refine ⟨_, g4 j (by omega), by rw [hin]; rfl, (by rw [hin]; exact fun q => (by cases q)), fun _ => ⟨by rw [hin]; rfl, by omega⟩, (hI _ _).1, by rw [hin]; exact arrV_size _ _ _, fun j hj => by rw [hin]; exact arrV_read _ _ hj, fun j hj => rfl, fun _ => ⟨hin, (show 1 < 7 by decide)⟩⟩
        · have h9 := hr.2 a b e9 he
          exact h9.kept (g3 a h9.lt)
    have K := kk F.heap locs ls _ _ hrel ⟨by
      have := hR.1
      have := hS.1
      show F.heap.size + (h.2.2.1 - (1 + n.toNatClampNeg)) ≤ _
      omega, by
      have := hR.2
      show zTot F.heap + (h.2.2.2 - (n.toNatClampNeg + n.toNatClampNeg * k.toNatClampNeg)) ≤ _
      omega, s3⟩ ⟨by have := hS.1; omega, fun q h1 h2 => (g3 q (Nat.lt_of_lt_of_le h1 hS.1)).trans (hS.2.1 q h1 h2), hS.2.2⟩ hl F rfl X'
    obtain ⟨t9, a1, b1⟩ := K
    refine ⟨t9, step t9 ?_, b1⟩
    have e9 : T.heap.size = h.2.1 := by rw [hT, hq]
    rw [e9]
    exact a1
  · cases hv
end ZR8
