/-! ROWS for lists that grow: stores of objects into arrays of Object, copies of such arrays -/
set_option maxRecDepth 100000
section LR
variable {p : Program} {l : Launch} {e : Env} {R : Room} {s : State} {m : MethodId} {args : Array Value} {below : List Frame} {meth : Method} {c : Code} {H : Heap} {locs : List Loc} {cells slots : Nat} {Q : State → Prop}
variable {cc : ByteArray} {pc nL : Nat} {ls : Array Slot} {rest : List Value} {g : GG} {A : Nat → Prop} {a : Nat} {H0 : Heap} {M : MM} {own : String}
theorem m_aastO (hx : p.tables.exec = Jvm.exec) (hb : c.code = cc) {H9 : Heap} (hE : amb g A s H9) (hM : mW g.1 A M H) (hS : va_S A H0 H locs) (k0 n0 k1 n1 ci : Nat) {r : vw_C} {v : Nat} {vs : List Value} {n : Nat} {f : Nat → Option Nat} (he : M k0 n0 = some (a, .inl (g.2.1 5, n, .inr (.inr (.inr (.inr f)))))) (hv : M k1 n1 = some (v, .inr (ci, vs))) (hc : clW[ci]? = some r) (hca : va_Nw (.castable r.1 "java/lang/Object") s) (j : Nat) (hj : j < n) (hn : n < 2 ^ 31) {i : Int32} (hi : i = nI j) {M' : MM} (h1 : M' k0 n0 = some (a, .inl (g.2.1 5, n, .inr (.inr (.inr (.inr (va_up f j (some v)))))))) (h2 : ∀ j i : Nat, ¬ (j = k0 ∧ i = n0) → M' j i = M j i) (hdg : decode cc pc = .ok (.aastore, 1))
    (kk : ∀ (H1 : Heap) (locs1 : List Loc), mW g.1 A M' H1 → va_S A H0 H1 locs1 → W p l e R s m args below meth c H1 locs1 cells slots Q (F0 m (pc + 1) ls rest)) : W p l e R s m args below meth c H locs cells slots Q (F0 m pc ls (.ref v :: .int i :: .ref a :: rest)) := by
  obtain ⟨g1, g2⟩ := m_in hi hj hn
  have hlt : i.toNatClampNeg < n := by rw [g2]; exact hj
  have h0 : ¬ i < 0 := fun q => g1 (Or.inl q)
  obtain ⟨r', hr', cellV, f1, f2, f3, -⟩ := hM.at hv
  have hcls := (hE.1.1 ci r hc).2
  obtain ⟨kA, comp, k1, k2, k3, -⟩ := (hE.1.2 5 _ rfl).2
  obtain ⟨kC, hkC, -⟩ := hcls.2
  obtain ⟨kE, hkE, -⟩ := Vm.findClass_spec k3
  refine W.aast hx hb (hM.at he) (fun q h => by cases h) (fun h => by cases h) k1 k2 rfl hkE ⟨h0, by show _ < (arrV _ _ _).slots.size; rw [arrV_size]; exact hlt⟩ f1 (fun q h => by rw [f3] at h; cases h) (by rw [f2]; exact hkC) (by rw [f2]; exact vb_asgC hca comp _ k3 hcls.1) rfl rfl hdg fun H1 e z oq => ?_
  refine kk H1 _ (hM.set he ?_ oq h1 h2) (hS.put z oq (hM.inA he))
  show H1[a]? = some (vp_cell _ _)
  rw [e]
  rw [vp_cell_q, vp_cell_q, arrV_store]
  congr 2
  funext q
  rw [g2]
  by_cases hq : q = j
  · subst hq
    simp [updV, va_up, va_rf]
  · simp [updV, va_up, hq]
theorem m_copyq (S : CallFix p m c cc nL s args lw_all own) (hsz : ls.size = nL) {index : Nat} (hlink : Cond.methodLink own index arraycopyName ∈ lw_all) (hnat : Cond.native arraycopyName ∈ lw_all) (hstat : Cond.static arraycopyName ∈ lw_all) (hini : Cond.initialized "java/lang/System" ∈ lw_all)
    {H9 : Heap} (hE : amb g A s H9) (hM : mW g.1 A M H) (hS : va_S A H0 H locs) (k0 n0 k1 n1 : Nat) {a0 : Nat} {N0 N1 : Nat} {f h : Nat → Option Nat} (he0 : M k0 n0 = some (a0, .inl (g.2.1 5, N0, .inr (.inr (.inr (.inr f)))))) (he1 : M k1 n1 = some (a, .inl (g.2.1 5, N1, .inr (.inr (.inr (.inr h))))))
    (n : Nat) (hn0 : n ≤ N0) (hn1 : n ≤ N1) (hb31 : N1 < 2 ^ 31) {w : Int32} (hw : w = nI n) (hel : ∀ i : Nat, i < n → ∀ y : Nat, f i = some y → ∃ C : String, va_Nw (.castable C "java/lang/Object") s ∧ ∃ cellV : Cell, H[y]? = some cellV ∧ cellV.vm.isStatics = false ∧ s.vm.findClass C = some cellV.cls)
    (hframes : 1 ≤ R.frames) (hlocals : (rest.map fun v => v.category).sum + (nativeFrameWords "java/lang/System" "arraycopy" 5 + 11) ≤ R.locals) (hdg : decode cc pc = .ok (.invokestatic index, 3))
    {M' : MM} (h1 : M' k1 n1 = some (a, .inl (g.2.1 5, N1, .inr (.inr (.inr (.inr (fun j => if j < n then f j else h j))))))) (h2 : ∀ j i : Nat, ¬ (j = k1 ∧ i = n1) → M' j i = M j i)
    (kk : ∀ (H1 : Heap) (locs1 : List Loc), mW g.1 A M' H1 → va_S A H0 H1 locs1 → W p l e R s m args below meth c H1 locs1 cells slots Q (F0 m (pc + 3) ls rest)) : W p l e R s m args below meth c H locs cells slots Q (F0 m pc ls (.int w :: .int 0 :: .ref a :: .int 0 :: .ref a0 :: rest)) := by
  obtain ⟨hx, hb, hml, hown, hts⟩ := S
  subst hw
  have hw1 : (nI n).toNatClampNeg = n := nI_clamp (by omega)
  have hw2 : (nI n).toInt = (n : Int) := nI_toInt (by omega)
  have hc0 : H[a0]? = some (vp_cell (g.2.1 5) (N0, .inr (.inr (.inr (.inr f))))) := hM.at he0
  have hc1 : H[a]? = some (vp_cell (g.2.1 5) (N1, .inr (.inr (.inr (.inr h))))) := hM.at he1
  obtain ⟨-, ka, hka, cma, hkka⟩ := (hE.1.2 5 _ rfl).1 N0 (fun j => va_rf (f j))
  obtain ⟨-, kb, hkb, cmb, hkkb⟩ := (hE.1.2 5 _ rfl).1 N1 (fun j => va_rf (h j))
  intro T hT X
  obtain ⟨vm', X', step⟩ := X.arraycopy hx hown (hts _ hlink) (hts _ hnat) (hts _ hstat) (hts _ hini) (src := a0) (dst := a) (cs := vp_cell (g.2.1 5) (N0, .inr (.inr (.inr (.inr f))))) (cd := vp_cell (g.2.1 5) (N1, .inr (.inr (.inr (.inr h))))) (srcPos := 0) (destPos := 0) (n := nI n) (by rw [hT]; exact hc0) (by rw [hT]; exact hc1)
    (fun _ h => by cases h) (fun _ h => by cases h) (fun h => by cases h) (fun h => by cases h) hka hkb hkka hkkb rfl (by decide) (by decide) (nI_pos (by omega))
    (by rw [hw2]; show ¬ (0 : Int) + _ > ((arrV _ N0 (fun j => va_rf (f j))).slots.size : Int); rw [arrV_size]; omega)
    (by rw [hw2]; show ¬ (0 : Int) + _ > ((arrV _ N1 (fun j => va_rf (h j))).slots.size : Int); rw [arrV_size]; omega)
    (fun vm1 hal i hi => by
      rw [hw1] at hi
      have hz : (0 : Int32).toNatClampNeg + i = i := by
        show 0 + i = i
        omega
      have ev : (vp_cell (g.2.1 5) (N0, .inr (.inr (.inr (.inr f))))).slots.getD ((0 : Int32).toNatClampNeg + i) .null = va_rf (f i) := by
        rw [hz]
        show (arrV _ N0 (fun j => va_rf (f j))).slots.getD _ _ = _
        rw [Array.getD_eq_getD_getElem?, arrV_read _ _ (by omega)]
        rfl
      rw [ev]
      cases hy : f i with
      | none => exact ⟨rfl, trivial⟩
      | some y =>
        obtain ⟨C, hca, cellV, g1, g2, g3⟩ := hel i hi y hy
        obtain ⟨kA, comp, r1, r2, r3, -⟩ := (hE.1.2 5 _ rfl).2
        cases hkb.symm.trans r1
        cases hkkb.symm.trans r2
        obtain ⟨kC, hkC, -⟩ := Vm.findClass_spec g3
        obtain ⟨kE, hkE, -⟩ := Vm.findClass_spec r3
        obtain ⟨kC', hkC', -⟩ := hal.2.2 _ _ hkC
        obtain ⟨kE', hkE', -⟩ := hal.2.2 _ _ hkE
        refine ⟨rfl, cellV, (show T.heap[y]? = some cellV by rw [hT]; exact g1), (fun q h => by rw [h] at g2; cases g2), ⟨kC', hkC'⟩, ⟨kE', hkE'⟩, ?_⟩
        show vm1.assignable _ _ = true
        rw [hal.assignable]
        exact vb_asgC hca _ _ r3 g3)
    (g := F0 m pc ls (.int (nI n) :: .int 0 :: .ref a :: .int 0 :: .ref a0 :: rest)) rfl (by rw [hml, hsz]) (rest := rest) rfl (by rw [hb]; exact hdg) hframes (by show 2 * 0 + _ + _ ≤ _; omega)
  have e1 : copied (vp_cell (g.2.1 5) (N0, .inr (.inr (.inr (.inr f))))) (vp_cell (g.2.1 5) (N1, .inr (.inr (.inr (.inr h))))) 0 0 (nI n) = vp_cell (g.2.1 5) (N1, .inr (.inr (.inr (.inr (fun j => if j < n then f j else h j))))) := by
    rw [vp_cell_q, vp_cell_q, vp_cell_q]
    refine (va_copied (fun z => va_rf z) _ _ f h (by rw [hw1]; show 0 + n ≤ N0; omega)).trans ?_
    congr 2
    funext j
    rw [hw1]
    show va_rf (va_cpy f h 0 0 n j) = _
    by_cases hj : j < n
    · rw [if_pos hj, pk_cpy_in (by omega) (by omega)]
      congr 2
      omega
    · rw [if_neg hj, pk_cpy_out (by omega)]
  rw [e1] at X' step
  have hl : a < H.size := (Array.getElem?_eq_some_iff.mp hc1).1
  generalize hcell : vp_cell (g.2.1 5) (N1, .inr (.inr (.inr (.inr (fun j => if j < n then f j else h j))))) = cellN at X' step
  have hheap : ((T.setVm vm').setCell a cellN).heap = H.setIfInBounds a cellN := by rw [← hT]; rfl
  have oq : ∀ q : Nat, q ≠ a → (H.setIfInBounds a cellN)[q]? = H[q]? := fun q hq => by simp [Array.getElem?_setIfInBounds, Ne.symm hq]
  have hA0 : A a := hM.inA (q := (a, _)) he1
  have hat : va_at g.1 clW (a, .inl (g.2.1 5, N1, .inr (.inr (.inr (.inr (fun j => if j < n then f j else h j)))))) (H.setIfInBounds a cellN) := by
    show (H.setIfInBounds a cellN)[a]? = some (vp_cell _ _)
    rw [hcell]
    simp [Array.getElem?_setIfInBounds, hl]
  obtain ⟨t, a1, b1⟩ := kk _ _ (hM.set he1 hat oq h1 h2) ⟨by simp; exact hS.1, fun q g1 g2 => by
      rw [oq q (fun e => g2 (by rw [e]; exact hA0))]
      exact hS.2.1 q g1 g2, fun q hq => by
      rcases List.mem_append.mp hq with h | h
      · exact hS.2.2 q h
      · obtain ⟨z, -, hz⟩ := List.mem_map.mp h
        rw [← hz]
        exact hA0⟩ _ hheap X'
  exact ⟨t, step t a1, b1⟩
end LR
