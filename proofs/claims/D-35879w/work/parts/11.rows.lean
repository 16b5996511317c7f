/-! ROWS over the memory of 10.base: one instruction each; starts, ends and calls of contracts. -/
set_option maxRecDepth 100000
section MR
variable {p : Program} {l : Launch} {e : Env} {R : Room} {s : State} {m : MethodId} {args : Array Value} {below : List Frame} {meth : Method} {c : Code} {H : Heap} {locs : List Loc} {cells slots : Nat} {Q : State → Prop}
variable {cc : ByteArray} {pc : Nat} {ls : Array Slot} {rest : List Value} {g : GG} {A : Nat → Prop} {a : Nat} {H0 : Heap} {M : MM}
theorem m_get (hx : p.tables.exec = Jvm.exec) (hb : c.code = cc) {own ref C : String} {T : u_T} {N ci index : Nat} {Ts : List Cond} (hts : ∀ w ∈ Ts, w.before args s = true) (hin : ∀ w ∈ u_ws C T N, w ∈ Ts) (hown : s.vm.findClass own = some m.cls) (hE : amb g A s H0) (hM : mW g.1 A M H) (k0 n0 : Nat) {fs : List Value} (he : M k0 n0 = some (a, .inr (ci, fs))) (hc : clW[ci]? = some (C, T, N)) (k : Nat) (hk : k < N) (hlink : (Cond.fieldLink own index ref (T k).2.1 (T k).2.2.1).before args s = true) (hsame : ∀ x, s.fieldFound? (T k).1 (T k).2.1 (T k).2.2.1 = some x → s.fieldFound? ref (T k).2.1 (T k).2.2.1 = some x) {v : Value} (hv : fs[k]? = some v) (hdg : decode cc pc = .ok (.getfield index, 3))
    (kk : W p l e R s m args below meth c H locs cells slots Q (F0 m (pc + 3) ls (v :: rest))) : W p l e R s m args below meth c H locs cells slots Q (F0 m pc ls (.ref a :: rest)) :=
  va_get hx hb hts hin hown hE.1 (hM.one he) 0 rfl hc k hk hlink hsame hv hdg kk
theorem m_getN (hx : p.tables.exec = Jvm.exec) (hb : c.code = cc) {own ref C host : String} {T : u_T} {N ci index : Nat} {Ts : List Cond} (hts : ∀ w ∈ Ts, w.before args s = true) (hin : ∀ w ∈ u_ws C T N, w ∈ Ts) (hown : s.vm.findClass own = some m.cls) (hE : amb g A s H0) (hM : mW g.1 A M H) (k0 n0 : Nat) {fs : List Value} (he : M k0 n0 = some (a, .inr (ci, fs))) (hc : clW[ci]? = some (C, T, N)) (k : Nat) (hk : k < N) (hlink : (Cond.fieldLinkNest own index ref (T k).2.1 (T k).2.2.1 host).before args s = true) (hsame : ∀ x, s.fieldFound? (T k).1 (T k).2.1 (T k).2.2.1 = some x → s.fieldFound? ref (T k).2.1 (T k).2.2.1 = some x) {v : Value} (hv : fs[k]? = some v) (hdg : decode cc pc = .ok (.getfield index, 3))
    (kk : W p l e R s m args below meth c H locs cells slots Q (F0 m (pc + 3) ls (v :: rest))) : W p l e R s m args below meth c H locs cells slots Q (F0 m pc ls (.ref a :: rest)) :=
  va_getN hx hb hts hin hown hE.1 (hM.one he) 0 rfl hc k hk hlink hsame hv hdg kk
theorem m_put (hx : p.tables.exec = Jvm.exec) (hb : c.code = cc) {own ref C : String} {T : u_T} {N ci index : Nat} {Ts : List Cond} (hts : ∀ w ∈ Ts, w.before args s = true) (hin : ∀ w ∈ u_ws C T N, w ∈ Ts) (ty0 : Nat → FieldType) (hty : ∀ k, k < N → parseFieldDescriptor (T k).2.2.1 = some (ty0 k)) (hnm : ∀ a, a < N → ∀ b, b < N → a ≠ b → (T a).2.1 ≠ (T b).2.1) (hown : s.vm.findClass own = some m.cls) {H9 : Heap} (hE : amb g A s H9) (hM : mW g.1 A M H) (hS0 : va_S A H0 H locs) (k0 n0 : Nat) {fs : List Value} (he : M k0 n0 = some (a, .inr (ci, fs))) (hc : clW[ci]? = some (C, T, N)) (k : Nat) (hk : k < N) (hlink : (Cond.fieldLink own index ref (T k).2.1 (T k).2.2.1).before args s = true) (hsame : ∀ x, s.fieldFound? (T k).1 (T k).2.1 (T k).2.2.1 = some x → s.fieldFound? ref (T k).2.1 (T k).2.2.1 = some x) (hfin : (T k).2.2.2 = false) {ty : FieldType} {v : Value} (hd : parseFieldDescriptor (T k).2.2.1 = some ty) (hn : narrow ty v = v) (hfit : fits ty v = true) (hl : k < fs.length)
    {M' : MM} (h1 : M' k0 n0 = some (a, .inr (ci, fs.set k v))) (h2 : ∀ j i : Nat, ¬ (j = k0 ∧ i = n0) → M' j i = M j i) (hdg : decode cc pc = .ok (.putfield index, 3)) (kk : ∀ (H1 : Heap) (locs1 : List Loc), mW g.1 A M' H1 → va_S A H0 H1 locs1 → W p l e R s m args below meth c H1 locs1 cells slots Q (F0 m (pc + 3) ls rest)) : W p l e R s m args below meth c H locs cells slots Q (F0 m pc ls (v :: .ref a :: rest)) := by
  have hK := hE.1
  have hap := va_apart (own := own) hts hin ty0 hty hnm hK hc
  obtain ⟨r, h1', cell, q1, q2, q3, q4⟩ := hM.at he
  have hr : r = (C, T, N) := Option.some.inj (h1'.symm.trans hc)
  subst hr
  obtain ⟨hS, hfc, kC, hkC, hkind⟩ := hK.1 ci _ hc
  obtain ⟨cf, kf, fi, f, hi, hsl⟩ := hS k hk
  have hlay := hts _ (hin _ (u_in_lay hk))
  unfold u_lay at hlay
  rw [if_neg (by rw [hfin]; decide)] at hlay
  have hst := (u_facts hfc hkC (u_lays hts hin hk) hi).1
  have h6 := u_store hfc hkC hkind hlay hi hd hn hfit
  refine W.putK hx hb (f := f) ⟨hown, hlink, ⟨_, _, _, hsame _ hi⟩, hst⟩ (by rw [q2]; exact h6) q1 q3 (by rw [hsl]; exact k2_hasslot (q4 k hk)) rfl rfl hdg fun H' e1 e2 e3 => ?_
  rw [hsl] at e1 ⊢
  exact kk H' _ (hM.set (e := .inr (ci, fs.set k v)) he ⟨_, hc, t_OB.to (V := updV (vp_V fs) k v) ⟨_, e1, q2, q3, t_set q4 hap hk v⟩ (fun j _ => vp_updV_set hl v j)⟩ e3 h1 h2) (hS0.put e2 e3 (hM.inA he))
theorem m_putF (hx : p.tables.exec = Jvm.exec) (hb : c.code = cc) {own ref C : String} {T : u_T} {N ci index : Nat} {Ts : List Cond} (hts : ∀ w ∈ Ts, w.before args s = true) (hin : ∀ w ∈ u_ws C T N, w ∈ Ts) (ty0 : Nat → FieldType) (hty : ∀ k, k < N → parseFieldDescriptor (T k).2.2.1 = some (ty0 k)) (hnm : ∀ a, a < N → ∀ b, b < N → a ≠ b → (T a).2.1 ≠ (T b).2.1) (hown : s.vm.findClass own = some m.cls) {H9 : Heap} (hE : amb g A s H9) (hM : mW g.1 A M H) (hS0 : va_S A H0 H locs) (k0 n0 : Nat) {fs : List Value} (he : M k0 n0 = some (a, .inr (ci, fs))) (hc : clW[ci]? = some (C, T, N)) (k : Nat) (hk : k < N) (hlink : (Cond.fieldLink own index ref (T k).2.1 (T k).2.2.1).before args s = true) (hsame : ∀ x, s.fieldFound? (T k).1 (T k).2.1 (T k).2.2.1 = some x → s.fieldFound? ref (T k).2.1 (T k).2.2.1 = some x) (hfin : (T k).2.2.2 = true) (hin2 : meth.name = "<init>") (hdecl : (T k).1 = own) {ty : FieldType} {v : Value} (hd : parseFieldDescriptor (T k).2.2.1 = some ty) (hn : narrow ty v = v) (hfit : fits ty v = true) (hl : k < fs.length)
    {M' : MM} (h1 : M' k0 n0 = some (a, .inr (ci, fs.set k v))) (h2 : ∀ j i : Nat, ¬ (j = k0 ∧ i = n0) → M' j i = M j i) (hdg : decode cc pc = .ok (.putfield index, 3)) (kk : ∀ (H1 : Heap) (locs1 : List Loc), mW g.1 A M' H1 → va_S A H0 H1 locs1 → W p l e R s m args below meth c H1 locs1 cells slots Q (F0 m (pc + 3) ls rest)) : W p l e R s m args below meth c H locs cells slots Q (F0 m pc ls (v :: .ref a :: rest)) := by
  have hK := hE.1
  have hap := va_apart (own := own) hts hin ty0 hty hnm hK hc
  obtain ⟨r, h1', cell, q1, q2, q3, q4⟩ := hM.at he
  have hr : r = (C, T, N) := Option.some.inj (h1'.symm.trans hc)
  subst hr
  obtain ⟨hS, hfc, kC, hkC, hkind⟩ := hK.1 ci _ hc
  obtain ⟨cf, kf, fi, f, hi, hsl⟩ := hS k hk
  have hlay := hts _ (hin _ (u_in_lay hk))
  unfold u_lay at hlay
  rw [if_pos hfin] at hlay
  have hst := (u_facts hfc hkC (u_lays hts hin hk) hi).1
  have hcf : m.cls = cf := by
    obtain ⟨_, _, c', _, _, _, -, -, hf', -, -, -, hown2, -⟩ := Cond.laysFinal_spec hlay
    have e1 : c' = cf := by have := hi.symm.trans hf'; simp at this; exact this.1.symm
    rw [hdecl] at hown2
    rw [← e1]; exact Option.some.inj (hown.symm.trans hown2)
  have h6 := u_fits hfc hkC hkind (Or.inr hlay) hi hd hn hfit
  refine W.putFinK hx hb hown hlink (hsame _ hi) hst hcf hin2 (by rw [q2]; exact h6) q1 q3 (by rw [hsl]; exact k2_hasslot (q4 k hk)) rfl rfl hdg fun H' e1 e2 e3 => ?_
  rw [hsl] at e1 ⊢
  exact kk H' _ (hM.set (e := .inr (ci, fs.set k v)) he ⟨_, hc, t_OB.to (V := updV (vp_V fs) k v) ⟨_, e1, q2, q3, t_set q4 hap hk v⟩ (fun j _ => vp_updV_set hl v j)⟩ e3 h1 h2) (hS0.put e2 e3 (hM.inA he))
theorem m_in {i : Int32} {j n : Nat} (hi : i = nI j) (hj : j < n) (hn : n < 2 ^ 31) : vp_in i n ∧ i.toNatClampNeg = j := by
  subst hi
  exact ⟨vp_in_nI hj hn, nI_clamp (by omega)⟩
theorem m_iald (hx : p.tables.exec = Jvm.exec) (hb : c.code = cc) (hE : amb g A s H0) (hM : mW g.1 A M H) (k0 n0 : Nat) {n : Nat} {f : Nat → Int32} (he : M k0 n0 = some (a, .inl (g.2.1 0, n, .inl f))) (j : Nat) (hj : j < n) (hn : n < 2 ^ 31) {i : Int32} (hi : i = nI j) (hdg : decode cc pc = .ok (.iaload, 1))
    (kk : W p l e R s m args below meth c H locs cells slots Q (F0 m (pc + 1) ls (.int (f j) :: rest))) : W p l e R s m args below meth c H locs cells slots Q (F0 m pc ls (.int i :: .ref a :: rest)) := by
  obtain ⟨h1, h2⟩ := m_in hi hj hn
  refine va_iald hx hb hE.1 (hM.one he) 0 0 rfl rfl h1 hdg ?_
  rw [h2]; exact kk
theorem m_zald (hx : p.tables.exec = Jvm.exec) (hb : c.code = cc) (hE : amb g A s H0) (hM : mW g.1 A M H) (k0 n0 : Nat) {n : Nat} {f : Nat → Int32} (he : M k0 n0 = some (a, .inl (g.2.1 2, n, .inl f))) (j : Nat) (hj : j < n) (hn : n < 2 ^ 31) {i : Int32} (hi : i = nI j) (hdg : decode cc pc = .ok (.baload, 1))
    (kk : W p l e R s m args below meth c H locs cells slots Q (F0 m (pc + 1) ls (.int (f j) :: rest))) : W p l e R s m args below meth c H locs cells slots Q (F0 m pc ls (.int i :: .ref a :: rest)) := by
  obtain ⟨h1, h2⟩ := m_in hi hj hn
  refine va_zald hx hb hE.1 (hM.one he) 0 2 rfl rfl h1 hdg ?_
  rw [h2]; exact kk
theorem m_lald (hx : p.tables.exec = Jvm.exec) (hb : c.code = cc) (hE : amb g A s H0) (hM : mW g.1 A M H) (k0 n0 : Nat) {n : Nat} {f : Nat → Int64} (he : M k0 n0 = some (a, .inl (g.2.1 1, n, .inr (.inl f)))) (j : Nat) (hj : j < n) (hn : n < 2 ^ 31) {i : Int32} (hi : i = nI j) (hdg : decode cc pc = .ok (.laload, 1))
    (kk : W p l e R s m args below meth c H locs cells slots Q (F0 m (pc + 1) ls (.long (f j) :: rest))) : W p l e R s m args below meth c H locs cells slots Q (F0 m pc ls (.int i :: .ref a :: rest)) := by
  obtain ⟨h1, h2⟩ := m_in hi hj hn
  refine va_lald hx hb hE.1 (hM.one he) 0 1 rfl rfl h1 hdg ?_
  rw [h2]; exact kk
theorem m_aald (hx : p.tables.exec = Jvm.exec) (hb : c.code = cc) (hE : amb g A s H0) (hM : mW g.1 A M H) (k0 n0 : Nat) (t0 : Nat) {C : String} {cA : ClassId} {n : Nat} {f : Nat → Option Nat} (he : M k0 n0 = some (a, .inl (cA, n, .inr (.inr (.inr (.inr f)))))) (ht : (tysW g.2.1)[t0]? = some (cA, .object C)) (j : Nat) (hj : j < n) (hn : n < 2 ^ 31) {i : Int32} (hi : i = nI j) {v : Value} (hv : va_rf (f j) = v) (hdg : decode cc pc = .ok (.aaload, 1))
    (kk : W p l e R s m args below meth c H locs cells slots Q (F0 m (pc + 1) ls (v :: rest))) : W p l e R s m args below meth c H locs cells slots Q (F0 m pc ls (.int i :: .ref a :: rest)) := by
  obtain ⟨h1, h2⟩ := m_in hi hj hn
  refine va_aldq hx hb hE.1 (hM.one he) 0 t0 rfl ht h1 hdg ?_
  rw [h2, hv]; exact kk
theorem m_iast (hx : p.tables.exec = Jvm.exec) (hb : c.code = cc) {H9 : Heap} (hE : amb g A s H9) (hM : mW g.1 A M H) (hS : va_S A H0 H locs) (k0 n0 : Nat) {n : Nat} {f : Nat → Int32} (he : M k0 n0 = some (a, .inl (g.2.1 0, n, .inl f))) (j : Nat) (hj : j < n) (hn : n < 2 ^ 31) {i x : Int32} (hi : i = nI j) {M' : MM} (h1 : M' k0 n0 = some (a, .inl (g.2.1 0, n, .inl (va_up f j x)))) (h2 : ∀ j i : Nat, ¬ (j = k0 ∧ i = n0) → M' j i = M j i) (hdg : decode cc pc = .ok (.iastore, 1))
    (kk : ∀ (H1 : Heap) (locs1 : List Loc), mW g.1 A M' H1 → va_S A H0 H1 locs1 → W p l e R s m args below meth c H1 locs1 cells slots Q (F0 m (pc + 1) ls rest)) : W p l e R s m args below meth c H locs cells slots Q (F0 m pc ls (.int x :: .int i :: .ref a :: rest)) := by
  obtain ⟨g1, g2⟩ := m_in hi hj hn
  refine W.iast hx hb (hM.at he) ((hE.1.2 0 _ rfl).1 n (fun j => .int (f j))) (fun q => by cases q) (by show ¬ (i < 0 ∨ (arrV _ _ _).slots.size ≤ _); rw [arrV_size]; exact g1) rfl rfl hdg fun H1 e z oq => ?_
  refine kk H1 _ (hM.set he ?_ oq h1 h2) (hS.put z oq (hM.inA he))
  show H1[a]? = some (vp_cell _ _)
  rw [e]
  rw [vp_cell_i, vp_cell_i, arrV_store]
  congr 2
  funext q
  rw [g2]
  by_cases hq : q = j
  · subst hq
    simp [updV, va_up]
  · simp [updV, va_up, hq]
theorem m_zast (hx : p.tables.exec = Jvm.exec) (hb : c.code = cc) {H9 : Heap} (hE : amb g A s H9) (hM : mW g.1 A M H) (hS : va_S A H0 H locs) (k0 n0 : Nat) {n : Nat} {f : Nat → Int32} (he : M k0 n0 = some (a, .inl (g.2.1 2, n, .inl f))) (j : Nat) (hj : j < n) (hn : n < 2 ^ 31) {i x : Int32} (hi : i = nI j) (hz : vp_nar .boolean x = x) {M' : MM} (h1 : M' k0 n0 = some (a, .inl (g.2.1 2, n, .inl (va_up f j x)))) (h2 : ∀ j i : Nat, ¬ (j = k0 ∧ i = n0) → M' j i = M j i) (hdg : decode cc pc = .ok (.bastore, 1))
    (kk : ∀ (H1 : Heap) (locs1 : List Loc), mW g.1 A M' H1 → va_S A H0 H1 locs1 → W p l e R s m args below meth c H1 locs1 cells slots Q (F0 m (pc + 1) ls rest)) : W p l e R s m args below meth c H locs cells slots Q (F0 m pc ls (.int x :: .int i :: .ref a :: rest)) := by
  obtain ⟨g1, g2⟩ := m_in hi hj hn
  have hz2 : narrow .boolean (.int x) = .int x := by
    have h0 : narrow .boolean (.int x) = .int (vp_nar .boolean x) := rfl
    rw [h0, hz]
  refine W.zast hx hb (hM.at he) ((hE.1.2 2 _ rfl).1 n (fun j => .int (f j))) (fun q => by cases q) (by show ¬ (i < 0 ∨ (arrV _ _ _).slots.size ≤ _); rw [arrV_size]; exact g1) rfl rfl hdg fun H1 e z oq => ?_
  refine kk H1 _ (hM.set he ?_ oq h1 h2) (hS.put z oq (hM.inA he))
  show H1[a]? = some (vp_cell _ _)
  rw [e]
  rw [vp_cell_i, vp_cell_i, arrV_store]
  congr 2
  funext q
  rw [g2, hz2]
  by_cases hq : q = j
  · subst hq
    simp [updV, va_up]
  · simp [updV, va_up, hq]
theorem m_last (hx : p.tables.exec = Jvm.exec) (hb : c.code = cc) {H9 : Heap} (hE : amb g A s H9) (hM : mW g.1 A M H) (hS : va_S A H0 H locs) (k0 n0 : Nat) {n : Nat} {f : Nat → Int64} (he : M k0 n0 = some (a, .inl (g.2.1 1, n, .inr (.inl f)))) (j : Nat) (hj : j < n) (hn : n < 2 ^ 31) {i : Int32} {x : Int64} (hi : i = nI j) {M' : MM} (h1 : M' k0 n0 = some (a, .inl (g.2.1 1, n, .inr (.inl (va_up f j x))))) (h2 : ∀ j i : Nat, ¬ (j = k0 ∧ i = n0) → M' j i = M j i) (hdg : decode cc pc = .ok (.lastore, 1))
    (kk : ∀ (H1 : Heap) (locs1 : List Loc), mW g.1 A M' H1 → va_S A H0 H1 locs1 → W p l e R s m args below meth c H1 locs1 cells slots Q (F0 m (pc + 1) ls rest)) : W p l e R s m args below meth c H locs cells slots Q (F0 m pc ls (.long x :: .int i :: .ref a :: rest)) := by
  obtain ⟨g1, g2⟩ := m_in hi hj hn
  refine W.last hx hb (hM.at he) ((hE.1.2 1 _ rfl).1 n (fun j => .long (f j))) (fun q => by cases q) (by show ¬ (i < 0 ∨ (arrV _ _ _).slots.size ≤ _); rw [arrV_size]; exact g1) rfl rfl hdg fun H1 e z oq => ?_
  refine kk H1 _ (hM.set he ?_ oq h1 h2) (hS.put z oq (hM.inA he))
  show H1[a]? = some (vp_cell _ _)
  rw [e]
  rw [vp_cell_l, vp_cell_l, arrV_store]
  congr 2
  funext q
  rw [g2]
  by_cases hq : q = j
  · subst hq
    simp [updV, va_up]
  · simp [updV, va_up, hq]
theorem m_aast (hx : p.tables.exec = Jvm.exec) (hb : c.code = cc) {H9 : Heap} (hE : amb g A s H9) (hM : mW g.1 A M H) (hS : va_S A H0 H locs) (k0 n0 t0 k1 n1 ci : Nat) {r : vw_C} {v : Nat} {vs : List Value} {cA : ClassId} {n : Nat} {f : Nat → Option Nat} (he : M k0 n0 = some (a, .inl (cA, n, .inr (.inr (.inr (.inr f)))))) (ht : (tysW g.2.1)[t0]? = some (cA, .object r.1)) (hv : M k1 n1 = some (v, .inr (ci, vs))) (hc : clW[ci]? = some r) (j : Nat) (hj : j < n) (hn : n < 2 ^ 31) {i : Int32} (hi : i = nI j) {M' : MM} (h1 : M' k0 n0 = some (a, .inl (cA, n, .inr (.inr (.inr (.inr (va_up f j (some v)))))))) (h2 : ∀ j i : Nat, ¬ (j = k0 ∧ i = n0) → M' j i = M j i) (hdg : decode cc pc = .ok (.aastore, 1))
    (kk : ∀ (H1 : Heap) (locs1 : List Loc), mW g.1 A M' H1 → va_S A H0 H1 locs1 → W p l e R s m args below meth c H1 locs1 cells slots Q (F0 m (pc + 1) ls rest)) : W p l e R s m args below meth c H locs cells slots Q (F0 m pc ls (.ref v :: .int i :: .ref a :: rest)) := by
  obtain ⟨g1, g2⟩ := m_in hi hj hn
  have hlt : i.toNatClampNeg < n := by rw [g2]; exact hj
  have h0 : ¬ i < 0 := fun q => g1 (Or.inl q)
  obtain ⟨r', hr', cellV, f1, f2, f3, -⟩ := hM.at hv
  have hcls := (hE.1.1 ci r hc).2
  obtain ⟨kA, comp, k1, k2, k3, -⟩ := (hE.1.2 t0 _ ht).2
  have hcomp : comp = g.1.1 ci := Option.some.inj (k3.symm.trans hcls.1)
  subst hcomp
  obtain ⟨kC, hkC, -⟩ := hcls.2
  refine W.aast hx hb (hM.at he) (fun q h => by cases h) (fun h => by cases h) k1 k2 rfl hkC ⟨h0, by show _ < (arrV _ _ _).slots.size; rw [arrV_size]; exact hlt⟩ f1 (fun q h => by rw [f3] at h; cases h) (by rw [f2]; exact hkC) (by rw [f2]; exact va_assign hcls) rfl rfl hdg fun H1 e z oq => ?_
  refine kk H1 _ (hM.set he ?_ oq h1 h2) (hS.put z oq (hM.inA he))
  show H1[a]? = some (vp_cell _ _)
  rw [e]
  rw [vp_cell_q, vp_cell_q, arrV_store]
  congr 2
  funext q
  rw [g2]
  by_cases hq : q = j
  · subst hq
    simp [updV, va_up, va_rf]
  · simp [updV, va_up, hq]
theorem m_alen (hx : p.tables.exec = Jvm.exec) (hb : c.code = cc) (hE : amb g A s H0) (hM : mW g.1 A M H) (k0 n0 : Nat) (t0 : Nat) {cA : ClassId} {x : vp_A} {ty : FieldType} (he : M k0 n0 = some (a, .inl (cA, x))) (ht : (tysW g.2.1)[t0]? = some (cA, ty)) {v : Int32} (hv : nI x.1 = v) (hdg : decode cc pc = .ok (.arraylength, 1))
    (kk : W p l e R s m args below meth c H locs cells slots Q (F0 m (pc + 1) ls (.int v :: rest))) : W p l e R s m args below meth c H locs cells slots Q (F0 m pc ls (.ref a :: rest)) :=
  va_alen hx hb hE.1 (hM.one he) 0 t0 rfl ht hv hdg kk
theorem m_new (hx : p.tables.exec = Jvm.exec) (hb : c.code = cc) {own C : String} {T : u_T} {N ci index : Nat} {Ts : List Cond} (hts : ∀ w ∈ Ts, w.before args s = true) (hin : ∀ w ∈ u_ws C T N, w ∈ Ts) (ty : Nat → FieldType) (hty : ∀ k, k < N → parseFieldDescriptor (T k).2.2.1 = some (ty k)) (hown : s.vm.findClass own = some m.cls) (hcl : (Cond.classLink own index C).before args s = true) (hinst : (Cond.instantiable C N).before args s = true) (hini : (Cond.initialized C).before args s = true)
    {H9 : Heap} (hE : amb g A s H9) (hM : mW g.1 A M H) (hS : va_S A H0 H locs) (hA : ∀ q, H0.size ≤ q → A q) (k0 n0 : Nat) (hk0 : M k0 n0 = none) (hc : clW[ci]? = some (C, T, N)) {fs : List Value} (hfs : ∀ j, j < N → defaultValue (ty j) = vp_V fs j) (hcells : cells + 1 ≤ R.cells) (hslots : slots + N ≤ R.slots) (hdg : decode cc pc = .ok (.new index, 3))
    (kk : ∀ (q : Nat) (H1 : Heap), q = H.size → mW g.1 A (mUp M k0 n0 (q, .inr (ci, fs))) H1 → va_S A H0 H1 locs →
      W p l e R s m args below meth c H1 locs (cells + 1) (slots + N) Q (F0 m (pc + 3) ls (.ref q :: rest))) : W p l e R s m args below meth c H locs cells slots Q (F0 m pc ls rest) := by
  have hKn := hE.1.1 ci _ hc
  refine W.newcK hx hb hown hcl hinst hini rfl hdg hcells hslots hKn.2.1 rfl fun H1 kC hkC e1 z1 o1 => ?_
  exact kk H.size H1 rfl (hM.push k0 n0 hk0 o1 ⟨_, hc, (u_born ty hts hin hKn hkC e1 hty).to hfs⟩ (hA _ hS.1)) ⟨Nat.le_trans hS.1 (by omega), fun x h1 h2 => (o1 x (Nat.lt_of_lt_of_le h1 hS.1)).trans (hS.2.1 x h1 h2), hS.2.2⟩
theorem m_newa (hx : p.tables.exec = Jvm.exec) (hb : c.code = cc) {atype : ArrayType} (harr : (Cond.arrayClass (newarray.typeOf atype)).before args s = true) {ty : FieldType} (hty : newarray.typeOf atype = ty) {H9 : Heap} (hE : amb g A s H9) (hM : mW g.1 A M H) (hS : va_S A H0 H locs) (hA : ∀ q, H0.size ≤ q → A q) (k0 n0 : Nat) (hk0 : M k0 n0 = none) (t0 : Nat) {cA : ClassId} (ht : (tysW g.2.1)[t0]? = some (cA, ty)) (hprim : ∀ C, ty ≠ .object C)
    {n : Int32} (N' : Nat) {a0 : vp_A} (ha : vp_cell cA a0 = arrV cA N' (fun _ => defaultValue ty)) (hn : ¬ n < 0) (hN : n.toNatClampNeg = N') (hbytes : N' * componentBytes ty ≤ 536870912) (hcells : cells + 1 ≤ R.cells) (hslots : slots + N' ≤ R.slots) (hdg : decode cc pc = .ok (.newarray atype, 2))
    (kk : ∀ (q : Nat) (H1 : Heap), q = H.size → mW g.1 A (mUp M k0 n0 (q, .inl (cA, a0))) H1 → va_S A H0 H1 locs →
      W p l e R s m args below meth c H1 locs (cells + 1) (slots + N') Q (F0 m (pc + 2) ls (.ref q :: rest))) : W p l e R s m args below meth c H locs cells slots Q (F0 m pc ls (.int n :: rest)) := by
  subst hty
  refine va_newaK hx hb harr rfl hdg rfl hn hN hbytes hcells hslots rfl fun H1 cA' e1 z1 o1 hAr hNm => ?_
  have hcc : cA' = cA := by
    have h9 := (hE.1.2 t0 _ ht).2
    have h8 : s.vm.findClass ("[" ++ (newarray.typeOf atype).toString) = some cA := by
      unfold va_RA at h9
      split at h9
      · rename_i C heq
        exact absurd heq (hprim C)
      · exact h9
    exact Option.some.inj (hNm.symm.trans h8)
  subst hcc
  refine kk H.size H1 rfl (hM.push k0 n0 hk0 o1 ?_ (hA _ hS.1)) ⟨Nat.le_trans hS.1 (by omega), fun x h1 h2 => (o1 x (Nat.lt_of_lt_of_le h1 hS.1)).trans (hS.2.1 x h1 h2), hS.2.2⟩
  show H1[H.size]? = some (vp_cell _ _)
  rw [ha]
  exact e1
theorem m_newq (hx : p.tables.exec = Jvm.exec) (hb : c.code = cc) {own C : String} {index : Nat} (hown : s.vm.findClass own = some m.cls) (hclink : (Cond.classLink own index C).before args s = true) (hover : va_AO C s) {H9 : Heap} (hE : amb g A s H9) (hM : mW g.1 A M H) (hS : va_S A H0 H locs) (hA : ∀ q, H0.size ≤ q → A q) (k0 n0 : Nat) (hk0 : M k0 n0 = none) (t0 : Nat) {cA : ClassId} (ht : (tysW g.2.1)[t0]? = some (cA, .object C))
    {n : Int32} (N' : Nat) (hn : ¬ n < 0) (hN : n.toNatClampNeg = N') (hbytes : N' * 4 ≤ 536870912) (hcells : cells + 1 ≤ R.cells) (hslots : slots + N' ≤ R.slots) (hdg : decode cc pc = .ok (.anewarray index, 3))
    (kk : ∀ (q : Nat) (H1 : Heap), q = H.size → mW g.1 A (mUp M k0 n0 (q, .inl (cA, N', .inr (.inr (.inr (.inr (fun _ => none))))))) H1 → va_S A H0 H1 locs →
      W p l e R s m args below meth c H1 locs (cells + 1) (slots + N') Q (F0 m (pc + 3) ls (.ref q :: rest))) : W p l e R s m args below meth c H locs cells slots Q (F0 m pc ls (.int n :: rest)) := by
  subst hN
  refine W.anew hx hb hown hclink (va_AO.use hover) rfl hdg rfl hn hbytes hcells hslots fun cA' kA comp f1 f2 f3 f4 => ?_
  generalize hH1 : H.push ({ cls := cA', slots := Array.replicate n.toNatClampNeg .null, vm := .none } : Cell) = H1
  have z1 : H1.size = H.size + 1 := by rw [← hH1, Array.size_push]
  have e1 : H1[H.size]? = some (arrV cA' n.toNatClampNeg (fun _ => .null)) := by rw [← hH1, Array.getElem?_push_size, ← arrV_new]
  have o1 : ∀ q : Nat, q < H.size → H1[q]? = H[q]? := fun q hq => by rw [← hH1, Array.getElem?_push, if_neg (Nat.ne_of_lt hq)]
  have hcc : cA' = cA := by
    obtain ⟨kA9, comp9, g1, g2, g3, g4⟩ := (hE.1.2 t0 _ ht).2
    exact Option.some.inj (f1.symm.trans g4)
  subst hcc
  refine kk H.size H1 rfl (hM.push k0 n0 hk0 o1 ?_ (hA _ hS.1)) ⟨Nat.le_trans hS.1 (by omega), fun x h1 h2 => (o1 x (Nat.lt_of_lt_of_le h1 hS.1)).trans (hS.2.1 x h1 h2), hS.2.2⟩
  show H1[H.size]? = some (vp_cell _ _)
  rw [vp_cell_q]
  exact e1
/-- behind a call that has left our memory at M' -/
theorem m_iret {Rm : Type} {post : Int32 → Rm → Prop} {M' : Rm → MM} {mc ms : Nat} {v : Int32} {ty : FieldType} (u : Rm) (hx : p.tables.exec = Jvm.exec) (hb : c.code = cc) (hr : meth.sig.returnType = some ty) (hn : narrow ty (.int v) = .int v) (hlk : meth.locks = false) (hM : mW g.1 A (M' u) H) (hS : va_S A s.heap H locs) (hp : post v u) (h1 : cells ≤ mc) (h2 : slots ≤ ms) (hdg : decode cc pc = .ok (.ireturn, 1)) :
    W p l e R s m args below meth c H locs cells slots (MQ below (va_Qi post (fun u t => mW g.1 A (M' u) t.heap) A) args s mc ms A) (F0 m pc ls [.int v]) := by
  refine W.widen h1 h2 ?_
  exact W.zret (v := v) hx hb hr hn (fun t ht hW => ⟨⟨v, u, rfl, hp, by show mW g.1 A (M' u) t.heap; rw [ht]; exact hM⟩, hS.F ht⟩) hS.2.2 hdg
theorem m_lret {Rm : Type} {post : Int64 → Rm → Prop} {M' : Rm → MM} {mc ms : Nat} {v : Int64} (u : Rm) (hx : p.tables.exec = Jvm.exec) (hb : c.code = cc) (hr : meth.sig.returnType = some .long) (hlk : meth.locks = false) (hM : mW g.1 A (M' u) H) (hS : va_S A s.heap H locs) (hp : post v u) (h1 : cells ≤ mc) (h2 : slots ≤ ms) (hdg : decode cc pc = .ok (.lreturn, 1)) :
    W p l e R s m args below meth c H locs cells slots (MQ below (va_Ql post (fun u t => mW g.1 A (M' u) t.heap) A) args s mc ms A) (F0 m pc ls [.long v]) := by
  refine W.widen h1 h2 ?_
  exact W.lret (v := v) hx hb hr (fun t ht hW => ⟨⟨v, u, rfl, hp, by show mW g.1 A (M' u) t.heap; rw [ht]; exact hM⟩, hS.F ht⟩) hS.2.2 hdg
theorem m_vret {Rm : Type} {post : Rm → Prop} {M' : Rm → MM} {mc ms : Nat} (u : Rm) (hx : p.tables.exec = Jvm.exec) (hb : c.code = cc) (hr : meth.sig.returnType = none) (hlk : meth.locks = false) (hM : mW g.1 A (M' u) H) (hS : va_S A s.heap H locs) (hp : post u) (h1 : cells ≤ mc) (h2 : slots ≤ ms) (hdg : decode cc pc = .ok (.return_, 1)) :
    W p l e R s m args below meth c H locs cells slots (MQ below (va_Qv post (fun u t => mW g.1 A (M' u) t.heap) A) args s mc ms A) (F0 m pc ls []) := by
  refine W.widen h1 h2 ?_
  exact W.vret hx hb hr (fun t ht hW => ⟨⟨u, rfl, hp, by show mW g.1 A (M' u) t.heap; rw [ht]; exact hM⟩, hS.F ht⟩) hS.2.2 hdg
theorem m_aret {Rm : Type} {post : Rm → Prop} {M' : Rm → MM} {ra : Rm → Nat → Prop} {mc ms : Nat} {v : Nat} {rt : FieldType} (u : Rm) (hx : p.tables.exec = Jvm.exec) (hb : c.code = cc) (hr : meth.sig.returnType = some rt) (hrt : (∃ n, rt = .object n) ∨ ∃ t, rt = .array t) (hlk : meth.locks = false) (hM : mW g.1 A (M' u) H) (hS : va_S A s.heap H locs) (hp : post u) (hra : ra u v) (h1 : cells ≤ mc) (h2 : slots ≤ ms) (hdg : decode cc pc = .ok (.areturn, 1)) :
    W p l e R s m args below meth c H locs cells slots (MQ below (va_Qr post (fun u a t => ra u a ∧ mW g.1 A (M' u) t.heap) A) args s mc ms A) (F0 m pc ls [.ref v]) := by
  refine W.widen h1 h2 ?_
  exact W.aret (v := .ref v) hx hb hr hrt (Or.inr ⟨v, rfl⟩) (fun t ht hW => ⟨⟨u, v, rfl, hp, hra, by show mW g.1 A (M' u) t.heap; rw [ht]; exact hM⟩, hS.F ht⟩) hS.2.2 hdg
end MR
/-- a contract's start: all that a walk needs -/
theorem m_start {l : Launch} {y : MethodName} {cc : ByteArray} {maxL : Nat} {ret : Option FieldType} {rm : Room} {av : List Value} {g : GG} {A : Nat → Prop} {M : MM} {Qc : Array Value → State → Outcome → State → Prop} {mc ms : Nat} (own : String) (hown : y.cls = own) (hy : plainName y.cls = true) (hlen : (lg_sl av).length ≤ maxL)
    (body : ∀ (p : Program) (e : Env) (s : State) (m : MethodId) (args : Array Value) (below : List Frame) (meth : Method) (c : Code), CallFix p m c cc maxL s args lw_all own → meth.sig.returnType = ret → meth.locks = false → meth.name = y.name → amb g A s s.heap → (∀ q : Nat, s.heap.size ≤ q → A q) → ∀ (H : Heap) (locs : List Loc), mW g.1 A M H → va_S A s.heap H locs →
      ∀ ls : Array Slot, lv_has ls maxL (lv_args 0 av) → W p l e rm s m args below meth c H locs 0 0 (MQ below Qc args s mc ms A) (F0 m 0 ls [])) : Met l y (ws_ y cc maxL ret) rm (va_Pc av (mPre g A M)) Qc mc ms A := by
  refine Met.ofW (cc := cc) (maxL := maxL) (ret := ret) hy rfl ?_
  intro p e s m args below meth c s₁ B hml hv
  obtain ⟨rfl, hE, hM, hA⟩ := hv
  have hts := atoms_spec (ws := ws_ y cc maxL ret) B.pre
  have hts : ∀ w ∈ lw_all, w.before _ s = true := fun w h => hts w (List.mem_cons_of_mem _ h)
  have how : s.vm.findClass y.cls = some m.cls := findClass_of_methodNamed B.named
  rw [hown] at how
  have hl := lv_entry av (n := maxL) hlen
  rw [lg_entry_eq]
  exact body p e s m _ below meth c ⟨B.exec, B.bytes, hml, how, hts⟩ B.returns B.notSynchronized (name_of_methodNamed B.named B.method).1 hE hA s.heap [] hM va_S.rf _ hl
