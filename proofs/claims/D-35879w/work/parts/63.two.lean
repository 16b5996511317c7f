/-! TWO WORLDS side by side: a call over one of them keeps the other's cells -/
set_option maxRecDepth 100000
theorem Met.post {l : Launch} {y : MethodName} {ws : List Cond} {rm : Room} {Pc : Array Value → State → Prop} {Qc Qc' : Array Value → State → Outcome → State → Prop} {mc ms : Nat} {A : Nat → Prop} (h : Met l y ws rm Pc Qc mc ms A) (hq : ∀ a st o t, Qc a st o t → Qc' a st o t) : Met l y ws rm Pc Qc' mc ms A := by
  intro p e h1 h2 h3 s m args below h4 h5 h6 h7
  obtain ⟨n, o, a1, a2, a3, a4, a5⟩ := h p e h1 h2 h3 s m args below h4 h5 h6 h7
  exact ⟨n, o, a1, a2, a3, hq _ _ _ _ a4, a5⟩
def apart (M N : MM) : Prop := ∀ (k n j i : Nat) (p q : Nat × va_E), M k n = some p → N j i = some q → p.1 ≠ q.1
theorem apart.sy {M N : MM} (h : apart M N) : apart N M := fun k n j i p q hp hq e => h j i k n q p hq hp e.symm
theorem apart.cl {M M' N : MM} (h : apart M N) (e : ∀ k n, M' k n = M k n) : apart M' N := fun k n j i p q hp hq => h k n j i p q (by rw [← e]; exact hp) hq
theorem apart.cr {M N N' : MM} (h : apart M N) (e : ∀ k n, N' k n = N k n) : apart M N' := fun k n j i p q hp hq => h k n j i p q hp (by rw [← e]; exact hq)
/-- all but the other world's cells -/
def exA (A0 : Nat → Prop) (N : MM) : Nat → Prop := fun q => A0 q ∧ ∀ (j i : Nat) (p : Nat × va_E), N j i = some p → p.1 ≠ q
theorem ex_pre {g : GG} {A0 : Nat → Prop} {M N : MM} {s : State} {H : Heap} {locs : List Loc} (hE : amb g A0 s s.heap) (hA0 : ∀ q : Nat, s.heap.size ≤ q → A0 q) (hM : mW g.1 A0 M H) (hN : mW g.1 A0 N H) (hap : apart M N) (hS : va_S A0 s.heap H locs) (av : List Value) : ∀ U : State, U.heap = H → s.WarmedH U.vm → va_Pc av (mPre g (exA A0 N) M) av.toArray U := by
  intro U hU hW
  refine ⟨rfl, ?_, ?_, fun q hq => ⟨hA0 q (Nat.le_trans hS.1 (by rw [← hU]; exact hq)), fun j i p hp e => ?_⟩⟩
  · rw [hU]
    exact ((hE.kept hS.2.1).warm hW).narrow (fun q h => h.1)
  · rw [hU]
    exact ⟨fun k n q hk => ⟨hM.at hk, hM.inA hk, fun j i p hp e => hap k n j i q p hk hp e.symm⟩, hM.2⟩
  · have h1 := hN.lt hp
    rw [hU] at hq
    omega
theorem ex_back {g : GG} {A0 : Nat → Prop} {M' N : MM} {H H1 : Heap} (hM1 : mW g.1 (exA A0 N) M' H1) (hN : mW g.1 A0 N H) (hz : ∀ q : Nat, q < H.size → ¬ exA A0 N q → H1[q]? = H[q]?) : mW g.1 A0 M' H1 ∧ mW g.1 A0 N H1 ∧ apart M' N :=
  ⟨⟨fun k n q hk => ⟨hM1.at hk, (hM1.inA hk).1⟩, hM1.2⟩, hN.kept (fun k n q hk => hz q.1 (hN.lt hk) (fun h => h.2 k n q hk rfl)), fun k n j i p q hp hq e => (hM1.inA hp).2 j i q hq e.symm⟩
section TWO
variable {p : Program} {l : Launch} {e : Env} {R : Room} {s : State} {m : MethodId} {args : Array Value} {below : List Frame} {meth : Method} {c : Code} {H : Heap} {locs : List Loc} {cells slots : Nat} {Q : State → Prop}
variable {cc bytes : ByteArray} {pc mc ms n nL maxL index ci : Nat} {ls : Array Slot} {rest st As : List Value} {g : GG} {A0 : Nat → Prop} {b : Nat} {M N : MM} {y : MethodName} {ret : Option FieldType} {ws Ts : List Cond} {rm : Room} {own C : String} {hh : List (Nat × Nat × Nat × Nat)} {Rm : Type} {M' : Rm → MM}
/-- a wrapper of the law is called -/
theorem l_cW {post : Int32 → Rm → Prop} (S : CallFix p m c cc nL s args Ts own) (hMet : ∀ A, Met l y ws rm (va_Pc As (mPre g A M)) (va_Qi post (fun u t => mW g.1 A (M' u) t.heap) A) mc ms A) (cw : vx_CSW R s args own index y bytes maxL ret hh ws rm mc ms n) (hE : amb g A0 s s.heap) (hA0 : ∀ q : Nat, s.heap.size ≤ q → A0 q) (hM : mW g.1 A0 M H) (hN : mW g.1 A0 N H) (hap : apart M N) (hS : va_S A0 s.heap H locs)
    (hn : As.length = n) (hsize : ls.size = nL) (hst : st = As.reverse ++ rest) (hW : (rest.map fun v => v.category).sum ≤ 8) (hdg : decode cc pc = .ok (.invokestatic index, 3)) (hf : cells + mc ≤ R.cells ∧ slots + ms ≤ R.slots)
    (kk : ∀ (r : Int32) (u : Rm) (H1 : Heap) (locs1 : List Loc), post r u → mW g.1 A0 (M' u) H1 → mW g.1 A0 N H1 → apart (M' u) N → va_S A0 s.heap H1 locs1 → W p l e R s m args below meth c H1 locs1 (cells + mc) (slots + ms) Q (F0 m (pc + 3) ls (.int r :: rest))) : W p l e R s m args below meth c H locs cells slots Q (F0 m pc ls st) :=
  va_calli (vx_runSW S (hMet (exA A0 N)) cw ⟨mPre_blind _, ex_pre hE hA0 hM hN hap hS _⟩ rfl hn hsize hst (lv_room hW) hdg hf) hS (fun _ _ h => h.1) (fun _ h => h.1) (fun r u t H1 locs1 ht _ hp hB _ hz hS1 => by
    obtain ⟨a1, a2, a3⟩ := ex_back (by rw [← ht]; exact hB) hN hz
    exact kk r u H1 locs1 hp a1 a2 a3 hS1)
/-- a method of one of the two worlds' objects is called: an int, a long, nothing -/
theorem l_cI {post : Int32 → Rm → Prop} (S : CallFix p m c cc nL s args Ts own) (hMet : ∀ A, Met l y ws rm (va_Pc (.ref b :: As) (mPre g A M)) (va_Qi post (fun u t => mW g.1 A (M' u) t.heap) A) mc ms A) (cw : CallW R s args own C index y bytes maxL ret ws rm mc ms n) (hE : amb g A0 s s.heap) (hA0 : ∀ q : Nat, s.heap.size ≤ q → A0 q) (hM : mW g.1 A0 M H) (hN : mW g.1 A0 N H) (hap : apart M N) (hS : va_S A0 s.heap H locs) (k0 n0 : Nat) {T : u_T} {N9 : Nat} {fs : List Value} (he : M k0 n0 = some (b, .inr (ci, fs))) (hc : clW[ci]? = some (C, T, N9))
    (hn : As.length = n) (hsize : ls.size = nL) (hst : st = As.reverse ++ .ref b :: rest) (hW : (rest.map fun v => v.category).sum ≤ 8) (hdg : decode cc pc = .ok (.invokevirtual index, 3)) (hf : cells + mc ≤ R.cells ∧ slots + ms ≤ R.slots)
    (kk : ∀ (r : Int32) (u : Rm) (H1 : Heap) (locs1 : List Loc), post r u → mW g.1 A0 (M' u) H1 → mW g.1 A0 N H1 → apart (M' u) N → va_S A0 s.heap H1 locs1 → W p l e R s m args below meth c H1 locs1 (cells + mc) (slots + ms) Q (F0 m (pc + 3) ls (.int r :: rest))) : W p l e R s m args below meth c H locs cells slots Q (F0 m pc ls st) :=
  va_calli (va_runV S (hMet (exA A0 N)) cw ⟨mPre_blind _, m_recv hE hM he hc, ex_pre hE hA0 hM hN hap hS _⟩ rfl hn hsize hst (lv_room hW) hdg hf) hS (fun _ _ h => h.1) (fun _ h => h.1) (fun r u t H1 locs1 ht _ hp hB _ hz hS1 => by
    obtain ⟨a1, a2, a3⟩ := ex_back (by rw [← ht]; exact hB) hN hz
    exact kk r u H1 locs1 hp a1 a2 a3 hS1)
theorem l_cL {post : Int64 → Rm → Prop} (S : CallFix p m c cc nL s args Ts own) (hMet : ∀ A, Met l y ws rm (va_Pc (.ref b :: As) (mPre g A M)) (va_Ql post (fun u t => mW g.1 A (M' u) t.heap) A) mc ms A) (cw : CallW R s args own C index y bytes maxL ret ws rm mc ms n) (hE : amb g A0 s s.heap) (hA0 : ∀ q : Nat, s.heap.size ≤ q → A0 q) (hM : mW g.1 A0 M H) (hN : mW g.1 A0 N H) (hap : apart M N) (hS : va_S A0 s.heap H locs) (k0 n0 : Nat) {T : u_T} {N9 : Nat} {fs : List Value} (he : M k0 n0 = some (b, .inr (ci, fs))) (hc : clW[ci]? = some (C, T, N9))
    (hn : As.length = n) (hsize : ls.size = nL) (hst : st = As.reverse ++ .ref b :: rest) (hW : (rest.map fun v => v.category).sum ≤ 8) (hdg : decode cc pc = .ok (.invokevirtual index, 3)) (hf : cells + mc ≤ R.cells ∧ slots + ms ≤ R.slots)
    (kk : ∀ (r : Int64) (u : Rm) (H1 : Heap) (locs1 : List Loc), post r u → mW g.1 A0 (M' u) H1 → mW g.1 A0 N H1 → apart (M' u) N → va_S A0 s.heap H1 locs1 → W p l e R s m args below meth c H1 locs1 (cells + mc) (slots + ms) Q (F0 m (pc + 3) ls (.long r :: rest))) : W p l e R s m args below meth c H locs cells slots Q (F0 m pc ls st) :=
  va_calll (va_runV S (hMet (exA A0 N)) cw ⟨mPre_blind _, m_recv hE hM he hc, ex_pre hE hA0 hM hN hap hS _⟩ rfl hn hsize hst (lv_room hW) hdg hf) hS (fun _ _ h => h.1) (fun _ h => h.1) (fun r u t H1 locs1 ht _ hp hB _ hz hS1 => by
    obtain ⟨a1, a2, a3⟩ := ex_back (by rw [← ht]; exact hB) hN hz
    exact kk r u H1 locs1 hp a1 a2 a3 hS1)
theorem l_cV {post : Rm → Prop} (S : CallFix p m c cc nL s args Ts own) (hMet : ∀ A, Met l y ws rm (va_Pc (.ref b :: As) (mPre g A M)) (va_Qv post (fun u t => mW g.1 A (M' u) t.heap) A) mc ms A) (cw : CallW R s args own C index y bytes maxL ret ws rm mc ms n) (hE : amb g A0 s s.heap) (hA0 : ∀ q : Nat, s.heap.size ≤ q → A0 q) (hM : mW g.1 A0 M H) (hN : mW g.1 A0 N H) (hap : apart M N) (hS : va_S A0 s.heap H locs) (k0 n0 : Nat) {T : u_T} {N9 : Nat} {fs : List Value} (he : M k0 n0 = some (b, .inr (ci, fs))) (hc : clW[ci]? = some (C, T, N9))
    (hn : As.length = n) (hsize : ls.size = nL) (hst : st = As.reverse ++ .ref b :: rest) (hW : (rest.map fun v => v.category).sum ≤ 8) (hdg : decode cc pc = .ok (.invokevirtual index, 3)) (hf : cells + mc ≤ R.cells ∧ slots + ms ≤ R.slots)
    (kk : ∀ (u : Rm) (H1 : Heap) (locs1 : List Loc), post u → mW g.1 A0 (M' u) H1 → mW g.1 A0 N H1 → apart (M' u) N → va_S A0 s.heap H1 locs1 → W p l e R s m args below meth c H1 locs1 (cells + mc) (slots + ms) Q (F0 m (pc + 3) ls rest)) : W p l e R s m args below meth c H locs cells slots Q (F0 m pc ls st) :=
  va_callv (va_runV S (hMet (exA A0 N)) cw ⟨mPre_blind _, m_recv hE hM he hc, ex_pre hE hA0 hM hN hap hS _⟩ rfl hn hsize hst (lv_room hW) hdg hf) hS (fun _ _ h => h.1) (fun _ h => h.1) (fun u t H1 locs1 ht _ hp hB _ hz hS1 => by
    obtain ⟨a1, a2, a3⟩ := ex_back (by rw [← ht]; exact hB) hN hz
    exact kk u H1 locs1 hp a1 a2 a3 hS1)
/-- a constructor -/
theorem l_cN {post : Rm → Prop} (S : CallFix p m c cc nL s args Ts own) (hMet : ∀ A, Met l y ws rm (va_Pc (.ref b :: As) (mPre g A M)) (va_Qv post (fun u t => mW g.1 A (M' u) t.heap) A) mc ms A) (cw : CallB R s args own index y bytes maxL none ws rm mc ms n ∧ y.name = "<init>" ∧ (Cond.instanceMethod y).before args s = true) (hE : amb g A0 s s.heap) (hA0 : ∀ q : Nat, s.heap.size ≤ q → A0 q) (hM : mW g.1 A0 M H) (hN : mW g.1 A0 N H) (hap : apart M N) (hS : va_S A0 s.heap H locs)
    (hn : As.length = n) (hsize : ls.size = nL) (hst : st = As.reverse ++ .ref b :: rest) (hW : (rest.map fun v => v.category).sum ≤ 8) (hdg : decode cc pc = .ok (.invokespecial index, 3)) (hf : cells + mc ≤ R.cells ∧ slots + ms ≤ R.slots)
    (kk : ∀ (u : Rm) (H1 : Heap) (locs1 : List Loc), post u → mW g.1 A0 (M' u) H1 → mW g.1 A0 N H1 → apart (M' u) N → va_S A0 s.heap H1 locs1 → W p l e R s m args below meth c H1 locs1 (cells + mc) (slots + ms) Q (F0 m (pc + 3) ls rest)) : W p l e R s m args below meth c H locs cells slots Q (F0 m pc ls st) :=
  va_callv (va_runI S (hMet (exA A0 N)) cw ⟨mPre_blind _, ex_pre hE hA0 hM hN hap hS _⟩ rfl hn hsize hst (lv_room hW) hdg hf) hS (fun _ _ h => h.1) (fun _ h => h.1) (fun u t H1 locs1 ht _ hp hB _ hz hS1 => by
    obtain ⟨a1, a2, a3⟩ := ex_back (by rw [← ht]; exact hB) hN hz
    exact kk u H1 locs1 hp a1 a2 a3 hS1)
end TWO
