/-! ROWS over the class's memory -/
set_option maxRecDepth 100000
section CR2
variable {p : Program} {l : Launch} {e : Env} {R : Room} {s : State} {m : MethodId} {args : Array Value} {below : List Frame} {meth : Method} {c : Code} {H : Heap} {locs : List Loc} {cells slots : Nat} {Q : State → Prop}
variable {cc : ByteArray} {pc nL : Nat} {ls : Array Slot} {rest : List Value} {g : GG} {A : Nat → Prop} {a : Nat} {ad : Nat → Nat → Nat} {Mx : MM} {x : St} {own : String}
theorem cg_ld (S : CallFix p m c cc nL s args lw_all own) (hE : amb g A s s.heap) (hM : mW g.1 A (cwM g ad Mx x) H) (j : Nat) (hj : j < 2) {i : Int32} (hi : i = nI j) (hdg : decode cc pc = .ok (.laload, 1))
    (kk : W p l e R s m args below meth c H locs cells slots Q (F0 m (pc + 1) ls (.long (x.2 (30 + j)) :: rest))) : W p l e R s m args below meth c H locs cells slots Q (F0 m pc ls (.int i :: .ref (ad 11 0) :: rest)) := by
  refine m_lald S.1 S.2.1 hE hM 11 0 cw_11a j hj (by decide) hi hdg ?_
  have e : cGas x j = x.2 (30 + j) := if_pos hj
  rw [e]; exact kk
theorem ca_ld (S : CallFix p m c cc nL s args lw_all own) (hE : amb g A s s.heap) (hM : mW g.1 A (cwM g ad Mx x) H) (j : Nat) (hj : j < 3) {i : Int32} (hi : i = nI j) (hdg : decode cc pc = .ok (.laload, 1))
    (kk : W p l e R s m args below meth c H locs cells slots Q (F0 m (pc + 1) ls (.long (x.2 (26 + j)) :: rest))) : W p l e R s m args below meth c H locs cells slots Q (F0 m pc ls (.int i :: .ref (ad 11 1) :: rest)) := by
  refine m_lald S.1 S.2.1 hE hM 11 1 cw_11b j hj (by decide) hi hdg ?_
  have e : cCame x j = x.2 (26 + j) := if_pos hj
  rw [e]; exact kk
theorem cg_up (x : St) {j : Nat} (hj : j < 2) (v : Int64) : cGas (sL x (30 + j) v) = va_up (cGas x) j v := by
  funext t
  unfold cGas va_up
  by_cases h : t = j
  · subst h
    rw [if_pos hj, if_pos rfl]
    exact if_pos rfl
  · rw [if_neg h]
    show _ = (if t < 2 then x.2 (30 + t) else 0)
    by_cases ht : t < 2
    · rw [if_pos ht, if_pos ht]
      exact if_neg (by omega)
    · rw [if_neg ht, if_neg ht]
theorem ca_up (x : St) {j : Nat} (hj : j < 3) (v : Int64) : cCame (sL x (26 + j) v) = va_up (cCame x) j v := by
  funext t
  unfold cCame va_up
  by_cases h : t = j
  · subst h
    rw [if_pos hj, if_pos rfl]
    exact if_pos rfl
  · rw [if_neg h]
    show _ = (if t < 3 then x.2 (26 + t) else 0)
    by_cases ht : t < 3
    · rw [if_pos ht, if_pos ht]
      exact if_neg (by omega)
    · rw [if_neg ht, if_neg ht]
theorem cg_st (S : CallFix p m c cc nL s args lw_all own) (hE : amb g A s s.heap) (hM : mW g.1 A (cwM g ad Mx x) H) (hS : va_S A s.heap H locs) (j : Nat) (hj : j < 2) {i : Int32} {v : Int64} (hi : i = nI j) (hdg : decode cc pc = .ok (.lastore, 1))
    (kk : ∀ (x' : St) (H1 : Heap) (locs1 : List Loc), sL x (30 + j) v = x' → mW g.1 A (cwM g ad Mx x') H1 → va_S A s.heap H1 locs1 → W p l e R s m args below meth c H1 locs1 cells slots Q (F0 m (pc + 1) ls rest)) : W p l e R s m args below meth c H locs cells slots Q (F0 m pc ls (.long v :: .int i :: .ref (ad 11 0) :: rest)) :=
  m_last S.1 S.2.1 hE hM hS 11 0 cw_11a j hj (by decide) hi (M' := cwM g ad Mx (sL x (30 + j) v)) (by rw [← cg_up x hj]; exact cw_11a) (fun j2 i2 h => cw_sL (by refine ⟨?_, ?_, ?_⟩ <;> intros <;> omega)) hdg (fun H1 locs1 h1 h2 => kk _ H1 locs1 rfl h1 h2)
theorem ca_st (S : CallFix p m c cc nL s args lw_all own) (hE : amb g A s s.heap) (hM : mW g.1 A (cwM g ad Mx x) H) (hS : va_S A s.heap H locs) (j : Nat) (hj : j < 3) {i : Int32} {v : Int64} (hi : i = nI j) (hdg : decode cc pc = .ok (.lastore, 1))
    (kk : ∀ (x' : St) (H1 : Heap) (locs1 : List Loc), sL x (26 + j) v = x' → mW g.1 A (cwM g ad Mx x') H1 → va_S A s.heap H1 locs1 → W p l e R s m args below meth c H1 locs1 cells slots Q (F0 m (pc + 1) ls rest)) : W p l e R s m args below meth c H locs cells slots Q (F0 m pc ls (.long v :: .int i :: .ref (ad 11 1) :: rest)) :=
  m_last S.1 S.2.1 hE hM hS 11 1 cw_11b j hj (by decide) hi (M' := cwM g ad Mx (sL x (26 + j) v)) (by rw [← ca_up x hj]; exact cw_11b) (fun j2 i2 h => cw_sL (by refine ⟨?_, ?_, ?_⟩ <;> intros <;> omega)) hdg (fun H1 locs1 h1 h2 => kk _ H1 locs1 rfl h1 h2)
theorem cs_st (S : CallFix p m c cc nL s args lw_all own) (hE : amb g A s s.heap) (hM : mW g.1 A (cwM g ad Mx x) H) (hS : va_S A s.heap H locs) (j : Nat) (hj : j < 25) {i v : Int32} (hz : vp_nar .boolean v = v) (hi : i = nI j) (hdg : decode cc pc = .ok (.bastore, 1))
    (kk : ∀ (x' : St) (H1 : Heap) (locs1 : List Loc), sI x 51 j v = x' → mW g.1 A (cwM g ad Mx x') H1 → va_S A s.heap H1 locs1 → W p l e R s m args below meth c H1 locs1 cells slots Q (F0 m (pc + 1) ls rest)) : W p l e R s m args below meth c H locs cells slots Q (F0 m pc ls (.int v :: .int i :: .ref (ad 11 2) :: rest)) :=
  m_zast S.1 S.2.1 hE hM hS 11 2 cw_11c j hj (by decide) hi hz (M' := cwM g ad Mx (sI x 51 j v)) (by rw [← sI_up]; exact cw_11c) (fun j2 i2 h => cw_sI (by refine ⟨?_, ?_, ?_, ?_, ?_, ?_, ?_, ?_, ?_, ?_⟩ <;> intros <;> omega)) hdg (fun H1 locs1 h1 h2 => kk _ H1 locs1 rfl h1 h2)
theorem cp_st (S : CallFix p m c cc nL s args lw_all own) (hE : amb g A s s.heap) (hM : mW g.1 A (cwM g ad Mx x) H) (hS : va_S A s.heap H locs) (j : Nat) (hj : j < 25) {i v : Int32} (hi : i = nI j) (hdg : decode cc pc = .ok (.iastore, 1))
    (kk : ∀ (x' : St) (H1 : Heap) (locs1 : List Loc), sI x 50 j v = x' → mW g.1 A (cwM g ad Mx x') H1 → va_S A s.heap H1 locs1 → W p l e R s m args below meth c H1 locs1 cells slots Q (F0 m (pc + 1) ls rest)) : W p l e R s m args below meth c H locs cells slots Q (F0 m pc ls (.int v :: .int i :: .ref (ad 11 3) :: rest)) :=
  m_iast S.1 S.2.1 hE hM hS 11 3 cw_11d j hj (by decide) hi (M' := cwM g ad Mx (sI x 50 j v)) (by rw [← sI_up]; exact cw_11d) (fun j2 i2 h => cw_sI (by refine ⟨?_, ?_, ?_, ?_, ?_, ?_, ?_, ?_, ?_, ?_⟩ <;> intros <;> omega)) hdg (fun H1 locs1 h1 h2 => kk _ H1 locs1 rfl h1 h2)
theorem cR_ld (S : CallFix p m c cc nL s args lw_all own) (hE : amb g A s s.heap) (hM : mW g.1 A (cwM g ad Mx x) H) (b : Nat) (hb : b < nt x 19 0) (j : Nat) (hj : j < 3000) {i : Int32} (hi : i = nI j) (hdg : decode cc pc = .ok (.iaload, 1))
    (kk : W p l e R s m args below meth c H locs cells slots Q (F0 m (pc + 1) ls (.int (x.1 23 (3000 * b + j)) :: rest))) : W p l e R s m args below meth c H locs cells slots Q (F0 m pc ls (.int i :: .ref (ad 9 b) :: rest)) := by
  refine m_iald S.1 S.2.1 hE hM 9 b (cw_9 hb) j hj (by decide) hi hdg ?_
  have e : cRead x b j = x.1 23 (3000 * b + j) := if_pos hj
  rw [e]; exact kk
theorem cR_up (x : St) (b : Nat) {j : Nat} (hj : j < 3000) (v : Int32) : cRead (sI x 23 (3000 * b + j) v) b = va_up (cRead x b) j v := by
  funext t
  unfold cRead va_up
  by_cases h : t = j
  · subst h
    rw [if_pos hj, if_pos rfl]
    exact if_pos ⟨rfl, rfl⟩
  · rw [if_neg h]
    show _ = (if t < 3000 then x.1 23 (3000 * b + t) else 0)
    by_cases ht : t < 3000
    · rw [if_pos ht, if_pos ht]
      exact sI_o (fun q => h (by have := q.2; omega))
    · rw [if_neg ht, if_neg ht]
theorem cR_st (S : CallFix p m c cc nL s args lw_all own) (hE : amb g A s s.heap) (hM : mW g.1 A (cwM g ad Mx x) H) (hS : va_S A s.heap H locs) (b : Nat) (hb : b < nt x 19 0) (j : Nat) (hj : j < 3000) {i v : Int32} (hi : i = nI j) (hdg : decode cc pc = .ok (.iastore, 1))
    (kk : ∀ (x' : St) (H1 : Heap) (locs1 : List Loc), sI x 23 (3000 * b + j) v = x' → mW g.1 A (cwM g ad Mx x') H1 → va_S A s.heap H1 locs1 → W p l e R s m args below meth c H1 locs1 cells slots Q (F0 m (pc + 1) ls rest)) : W p l e R s m args below meth c H locs cells slots Q (F0 m pc ls (.int v :: .int i :: .ref (ad 9 b) :: rest)) := by
  have hn : nt (sI x 23 (3000 * b + j) v) 19 0 = nt x 19 0 := by
    show ((sI x 23 (3000 * b + j) v).1 19 0).toNatClampNeg = _
    rw [sI_ne x 23 _ v (by decide)]
    rfl
  exact m_iast S.1 S.2.1 hE hM hS 9 b (cw_9 hb) j hj (by decide) hi (M' := cwM g ad Mx (sI x 23 (3000 * b + j) v)) (by rw [← cR_up x b hj]; exact cw_9 (by rw [hn]; exact hb)) (fun j2 i2 h => cw_sI (by refine ⟨?_, ?_, ?_, ?_, ?_, ?_, ?_, ?_, ?_, ?_⟩ <;> intros <;> omega)) hdg (fun H1 locs1 h1 h2 => kk _ H1 locs1 rfl h1 h2)
theorem ch_put (S : CallFix p m c cc nL s args lw_all own) (hE : amb g A s s.heap) (hM : mW g.1 A (cwM g ad Mx x) H) (hS : va_S A s.heap H locs) (h : Nat) (hh : h < nt x 13 0) {index : Nat} (hl : Cond.fieldLink own index "Wakeground$House" "tilt" "I" ∈ lw_all) (v : Int32) (hdg : decode cc pc = .ok (.putfield index, 3))
    (kk : ∀ (x' : St) (H1 : Heap) (locs1 : List Loc), sI x 17 h v = x' → mW g.1 A (cwM g ad Mx x') H1 → va_S A s.heap H1 locs1 → W p l e R s m args below meth c H1 locs1 cells slots Q (F0 m (pc + 3) ls rest)) : W p l e R s m args below meth c H locs cells slots Q (F0 m pc ls (.int v :: .ref (ad 7 h) :: rest)) := by
  have hn : nt (sI x 17 h v) 13 0 = nt x 13 0 := by
    show ((sI x 17 h v).1 13 0).toNatClampNeg = _
    rw [sI_ne x 17 _ v (by decide)]
    rfl
  have hC : cHouse ad (sI x 17 h v) h = (cHouse ad x h).set 4 (.int v) := by
    have e14 : nt (sI x 17 h v) 14 h = nt x 14 h := by
      show ((sI x 17 h v).1 14 h).toNatClampNeg = _
      rw [sI_ne x 17 _ v (by decide)]
      rfl
    unfold cHouse
    rw [e14, sI_ne x 17 _ v (show 15 ≠ 17 by decide), sI_ne x 17 _ v (show 16 ≠ 17 by decide), sI_ne x 17 _ v (show 18 ≠ 17 by decide)]
    have e17 : (sI x 17 h v).1 17 h = v := if_pos ⟨rfl, rfl⟩
    rw [e17]
    rfl
  exact m_put S.1 S.2.1 S.2.2.2.2 in_X6 tyX6 tyX6_ok nmX6 S.2.2.2.1 hE hM hS 7 h (cw_7 hh) (ci := 5) rfl 4 (by decide) (S.2.2.2.2 _ hl) (fun _ h9 => h9) rfl (ty := .int) rfl rfl rfl (by show 4 < 5; decide) (M' := cwM g ad Mx (sI x 17 h v)) (by rw [← hC]; exact cw_7 (by rw [hn]; exact hh)) (fun j2 i2 h => cw_sI (by refine ⟨?_, ?_, ?_, ?_, ?_, ?_, ?_, ?_, ?_, ?_⟩ <;> intros <;> omega)) hdg (fun H1 locs1 h1 h2 => kk _ H1 locs1 rfl h1 h2)
theorem cm_puti (S : CallFix p m c cc nL s args lw_all own) (hE : amb g A s s.heap) (hM : mW g.1 A (cwM g ad Mx x) H) (hS : va_S A s.heap H locs) {index : Nat} (hl : Cond.fieldLink own index "Wakeground" "month" "I" ∈ lw_all) (v : Int32) (hdg : decode cc pc = .ok (.putfield index, 3))
    (kk : ∀ (x' : St) (H1 : Heap) (locs1 : List Loc), sI x 1 0 v = x' → mW g.1 A (cwM g ad Mx x') H1 → va_S A s.heap H1 locs1 → W p l e R s m args below meth c H1 locs1 cells slots Q (F0 m (pc + 3) ls rest)) : W p l e R s m args below meth c H locs cells slots Q (F0 m pc ls (.int v :: .ref (ad 0 0) :: rest)) :=
  m_put S.1 S.2.1 S.2.2.2.2 in_X1 tyX1 tyX1_ok nmX1 S.2.2.2.1 hE hM hS 0 0 cw_0 (ci := 0) rfl 7 (by decide) (S.2.2.2.2 _ hl) (fun _ h9 => h9) rfl (ty := .int) rfl rfl rfl (by show 7 < 10; decide) (M' := cwM g ad Mx (sI x 1 0 v)) rfl (fun j2 i2 h => cw_sI (by refine ⟨?_, ?_, ?_, ?_, ?_, ?_, ?_, ?_, ?_, ?_⟩ <;> intros <;> omega)) hdg (fun H1 locs1 h1 h2 => kk _ H1 locs1 rfl h1 h2)
theorem cm_putl (S : CallFix p m c cc nL s args lw_all own) (hE : amb g A s s.heap) (hM : mW g.1 A (cwM g ad Mx x) H) (hS : va_S A s.heap H locs) {index : Nat} (hl : Cond.fieldLink own index "Wakeground" "drained" "J" ∈ lw_all) (v : Int64) (hdg : decode cc pc = .ok (.putfield index, 3))
    (kk : ∀ (x' : St) (H1 : Heap) (locs1 : List Loc), sL x 29 v = x' → mW g.1 A (cwM g ad Mx x') H1 → va_S A s.heap H1 locs1 → W p l e R s m args below meth c H1 locs1 cells slots Q (F0 m (pc + 3) ls rest)) : W p l e R s m args below meth c H locs cells slots Q (F0 m pc ls (.long v :: .ref (ad 0 0) :: rest)) :=
  m_put S.1 S.2.1 S.2.2.2.2 in_X1 tyX1 tyX1_ok nmX1 S.2.2.2.1 hE hM hS 0 0 cw_0 (ci := 0) rfl 6 (by decide) (S.2.2.2.2 _ hl) (fun _ h9 => h9) rfl (ty := .long) rfl rfl rfl (by show 6 < 10; decide) (M' := cwM g ad Mx (sL x 29 v)) rfl (fun j2 i2 h => cw_sL (by refine ⟨?_, ?_, ?_⟩ <;> intros <;> omega)) hdg (fun H1 locs1 h1 h2 => kk _ H1 locs1 rfl h1 h2)
end CR2
/-- a contract's start where the class isn't plainly named (Math, Object): no native stands in the method's place -/
theorem m_startF {l : Launch} {y : MethodName} {cc : ByteArray} {maxL : Nat} {ret : Option FieldType} {rm : Room} {av : List Value} {g : GG} {A : Nat → Prop} {M : MM} {Qc : Array Value → State → Outcome → State → Prop} {mc ms : Nat} (own : String) (hown : y.cls = own) (hy : plainFor y = true) (hlen : (lg_sl av).length ≤ maxL)
    (body : ∀ (p : Program) (e : Env) (s : State) (m : MethodId) (args : Array Value) (below : List Frame) (meth : Method) (c : Code), CallFix p m c cc maxL s args lw_all own → meth.sig.returnType = ret → meth.locks = false → meth.name = y.name → amb g A s s.heap → (∀ q : Nat, s.heap.size ≤ q → A q) → ∀ (H : Heap) (locs : List Loc), mW g.1 A M H → va_S A s.heap H locs →
      ∀ ls : Array Slot, lv_has ls maxL (lv_args 0 av) → W p l e rm s m args below meth c H locs 0 0 (MQ below Qc args s mc ms A) (F0 m 0 ls [])) : Met l y (ws_ y cc maxL ret) rm (va_Pc av (mPre g A M)) Qc mc ms A := by
  refine MetFree.of_bodySF (code := cc) (maxLocals := maxL) (ret := ret) hy ?_ ?_
  · intro args s m h hn
    obtain ⟨meth, c, h1, h2, h3, h4, h5, h6, -, -⟩ := Cond.code_spec hn (atoms_spec (ws := ws_ y cc maxL ret) h _ List.mem_cons_self)
    exact ⟨meth, c, h1, h2, h3, h4, h5, h6⟩
  · intro p e s m args below meth c s₁ B hml hv _
    have hh0 : s₁.heap = s.heap := by rw [B.state]; rfl
    have hX : Stand p l e (headSpec (ws_ y cc maxL ret) rm).room s m args below meth c s₁ [] 0 0 := Stand.of_body B
    obtain ⟨rfl, hE, hM, hA⟩ := hv
    have hts := atoms_spec (ws := ws_ y cc maxL ret) B.pre
    have hts : ∀ w ∈ lw_all, w.before _ s = true := fun w h => hts w (List.mem_cons_of_mem _ h)
    have how : s.vm.findClass y.cls = some m.cls := findClass_of_methodNamed B.named
    rw [hown] at how
    have hl := lv_entry av (n := maxL) hlen
    obtain ⟨t, a1, o, b1, b2, b3⟩ := body p e s m _ below meth c ⟨B.exec, B.bytes, hml, how, hts⟩ B.returns B.notSynchronized (name_of_methodNamed B.named B.method).1 hE hA s.heap [] hM va_S.rf _ hl s₁ hh0 hX
    rw [← lg_entry_eq] at a1
    exact ⟨t, o, a1, b1, b2, ⟨b3.1, b3.2⟩⟩
