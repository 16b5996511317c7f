/-! CALLS of contracts over the memory: m_rV, m_rS, m_rI run; m_ci, m_cl, m_cv, m_cr go on behind. -/
set_option maxRecDepth 100000
section MC
variable {p : Program} {l : Launch} {e : Env} {R : Room} {s : State} {m : MethodId} {args : Array Value} {below : List Frame} {meth : Method} {c : Code} {H : Heap} {locs : List Loc} {cells slots : Nat} {Q : State → Prop}
variable {cc bytes : ByteArray} {pc mc ms n nL maxL index ci : Nat} {ls : Array Slot} {rest st As : List Value} {g : GG} {A : Nat → Prop} {a b : Nat} {M : MM} {y : MethodName} {ret : Option FieldType} {ws Ts : List Cond} {rm : Room} {own C : String} {Qc : Array Value → State → Outcome → State → Prop}
theorem m_rV (S : CallFix p m c cc nL s args Ts own) (hMet : Met l y ws rm (va_Pc (.ref b :: As) (mPre g A M)) Qc mc ms A) (cw : CallW R s args own C index y bytes maxL ret ws rm mc ms n) (hE : amb g A s s.heap) (hA : ∀ q : Nat, s.heap.size ≤ q → A q) (hM : mW g.1 A M H) (hS : va_S A s.heap H locs) (k0 n0 : Nat) {T : u_T} {N : Nat} {fs : List Value} (he : M k0 n0 = some (b, .inr (ci, fs))) (hc : clW[ci]? = some (C, T, N))
    (hn : As.length = n) (hsize : ls.size = nL) (hst : st = As.reverse ++ .ref b :: rest) (hW : (rest.map fun v => v.category).sum ≤ 8) (hdg : decode cc pc = .ok (.invokevirtual index, 3)) (hf : cells + mc ≤ R.cells ∧ slots + ms ≤ R.slots) :
    va_Run p l e R s m args below meth c H locs cells slots mc ms (F0 m pc ls st) rest (Qc (Value.ref b :: As).toArray) A :=
  va_runV S hMet cw ⟨mPre_blind _, m_recv hE hM he hc, mPre_at hE hA hM hS _⟩ rfl hn hsize hst (lv_room hW) hdg hf
theorem m_rS (S : CallFix p m c cc nL s args Ts own) (hMet : Met l y ws rm (va_Pc As (mPre g A M)) Qc mc ms A) (cw : CallB R s args own index y bytes maxL ret ws rm mc ms n ∧ (Cond.static y).before args s = true) (hE : amb g A s s.heap) (hA : ∀ q : Nat, s.heap.size ≤ q → A q) (hM : mW g.1 A M H) (hS : va_S A s.heap H locs)
    (hn : As.length = n) (hsize : ls.size = nL) (hst : st = As.reverse ++ rest) (hW : (rest.map fun v => v.category).sum ≤ 8) (hdg : decode cc pc = .ok (.invokestatic index, 3)) (hf : cells + mc ≤ R.cells ∧ slots + ms ≤ R.slots) :
    va_Run p l e R s m args below meth c H locs cells slots mc ms (F0 m pc ls st) rest (Qc As.toArray) A :=
  va_runS S hMet cw ⟨mPre_blind _, mPre_at hE hA hM hS _⟩ rfl hn hsize hst (lv_room hW) hdg hf
theorem m_rI (S : CallFix p m c cc nL s args Ts own) (hMet : Met l y ws rm (va_Pc (.ref b :: As) (mPre g A M)) Qc mc ms A) (cw : CallB R s args own index y bytes maxL none ws rm mc ms n ∧ y.name = "<init>" ∧ (Cond.instanceMethod y).before args s = true) (hE : amb g A s s.heap) (hA : ∀ q : Nat, s.heap.size ≤ q → A q) (hM : mW g.1 A M H) (hS : va_S A s.heap H locs)
    (hn : As.length = n) (hsize : ls.size = nL) (hst : st = As.reverse ++ .ref b :: rest) (hW : (rest.map fun v => v.category).sum ≤ 8) (hdg : decode cc pc = .ok (.invokespecial index, 3)) (hf : cells + mc ≤ R.cells ∧ slots + ms ≤ R.slots) :
    va_Run p l e R s m args below meth c H locs cells slots mc ms (F0 m pc ls st) rest (Qc (Value.ref b :: As).toArray) A :=
  va_runI S hMet cw ⟨mPre_blind _, mPre_at hE hA hM hS _⟩ rfl hn hsize hst (lv_room hW) hdg hf
variable {aa : Array Value} {Rm : Type} {M' : Rm → MM}
theorem m_ci {post : Int32 → Rm → Prop} (hr : va_Run p l e R s m args below meth c H locs cells slots mc ms (F0 m pc ls st) rest (va_Qi post (fun u t => mW g.1 A (M' u) t.heap) A aa) A) (hS : va_S A s.heap H locs)
    (kk : ∀ (r : Int32) (u : Rm) (H1 : Heap) (locs1 : List Loc), post r u → mW g.1 A (M' u) H1 → va_S A s.heap H1 locs1 → W p l e R s m args below meth c H1 locs1 (cells + mc) (slots + ms) Q (F0 m (pc + 3) ls (.int r :: rest))) : W p l e R s m args below meth c H locs cells slots Q (F0 m pc ls st) :=
  va_calli hr hS (fun _ _ h => h) (fun _ h => h) (fun r u t H1 locs1 ht _ hp hB _ _ hS1 => kk r u H1 locs1 hp (by rw [← ht]; exact hB) hS1)
theorem m_cl {post : Int64 → Rm → Prop} (hr : va_Run p l e R s m args below meth c H locs cells slots mc ms (F0 m pc ls st) rest (va_Ql post (fun u t => mW g.1 A (M' u) t.heap) A aa) A) (hS : va_S A s.heap H locs)
    (kk : ∀ (r : Int64) (u : Rm) (H1 : Heap) (locs1 : List Loc), post r u → mW g.1 A (M' u) H1 → va_S A s.heap H1 locs1 → W p l e R s m args below meth c H1 locs1 (cells + mc) (slots + ms) Q (F0 m (pc + 3) ls (.long r :: rest))) : W p l e R s m args below meth c H locs cells slots Q (F0 m pc ls st) :=
  va_calll hr hS (fun _ _ h => h) (fun _ h => h) (fun r u t H1 locs1 ht _ hp hB _ _ hS1 => kk r u H1 locs1 hp (by rw [← ht]; exact hB) hS1)
theorem m_cv {post : Rm → Prop} (hr : va_Run p l e R s m args below meth c H locs cells slots mc ms (F0 m pc ls st) rest (va_Qv post (fun u t => mW g.1 A (M' u) t.heap) A aa) A) (hS : va_S A s.heap H locs)
    (kk : ∀ (u : Rm) (H1 : Heap) (locs1 : List Loc), post u → mW g.1 A (M' u) H1 → va_S A s.heap H1 locs1 → W p l e R s m args below meth c H1 locs1 (cells + mc) (slots + ms) Q (F0 m (pc + 3) ls rest)) : W p l e R s m args below meth c H locs cells slots Q (F0 m pc ls st) :=
  va_callv hr hS (fun _ _ h => h) (fun _ h => h) (fun u t H1 locs1 ht _ hp hB _ _ hS1 => kk u H1 locs1 hp (by rw [← ht]; exact hB) hS1)
theorem m_cr {post : Rm → Prop} {ra : Rm → Nat → Prop} (hr : va_Run p l e R s m args below meth c H locs cells slots mc ms (F0 m pc ls st) rest (va_Qr post (fun u a t => ra u a ∧ mW g.1 A (M' u) t.heap) A aa) A) (hS : va_S A s.heap H locs)
    (kk : ∀ (u : Rm) (v : Nat) (H1 : Heap) (locs1 : List Loc), post u → ra u v → mW g.1 A (M' u) H1 → va_S A s.heap H1 locs1 → W p l e R s m args below meth c H1 locs1 (cells + mc) (slots + ms) Q (F0 m (pc + 3) ls (.ref v :: rest))) : W p l e R s m args below meth c H locs cells slots Q (F0 m pc ls st) :=
  va_callr hr hS (fun _ _ h => h) (fun _ h => h) (fun u v t H1 locs1 ht _ hp hB _ _ hS1 => kk u v H1 locs1 hp hB.1 (by rw [← ht]; exact hB.2) hS1)
end MC
/-- what a contract of ours gives back, where nothing is left open -/
abbrev pQi (g : GG) (A : Nat → Prop) (v : Int32) (M' : MM) : Array Value → State → Outcome → State → Prop := va_Qi (fun r (_ : Unit) => r = v) (fun _ t => mW g.1 A M' t.heap) A
abbrev pQl (g : GG) (A : Nat → Prop) (v : Int64) (M' : MM) : Array Value → State → Outcome → State → Prop := va_Ql (fun r (_ : Unit) => r = v) (fun _ t => mW g.1 A M' t.heap) A
abbrev pQv (g : GG) (A : Nat → Prop) (M' : MM) : Array Value → State → Outcome → State → Prop := va_Qv (fun (_ : Unit) => True) (fun _ t => mW g.1 A M' t.heap) A
abbrev pQr (g : GG) (A : Nat → Prop) (a : Nat) (M' : MM) : Array Value → State → Outcome → State → Prop := va_Qr (fun (_ : Unit) => True) (fun _ v t => v = a ∧ mW g.1 A M' t.heap) A
section MP
variable {p : Program} {l : Launch} {e : Env} {R : Room} {s : State} {m : MethodId} {args : Array Value} {below : List Frame} {meth : Method} {c : Code} {H : Heap} {locs : List Loc} {cells slots : Nat} {Q : State → Prop}
variable {pc mc ms : Nat} {ls : Array Slot} {rest st : List Value} {g : GG} {A : Nat → Prop} {M' : MM} {aa : Array Value}
theorem m_cpi {v : Int32} (hr : va_Run p l e R s m args below meth c H locs cells slots mc ms (F0 m pc ls st) rest (pQi g A v M' aa) A) (hS : va_S A s.heap H locs)
    (kk : ∀ (H1 : Heap) (locs1 : List Loc), mW g.1 A M' H1 → va_S A s.heap H1 locs1 → W p l e R s m args below meth c H1 locs1 (cells + mc) (slots + ms) Q (F0 m (pc + 3) ls (.int v :: rest))) : W p l e R s m args below meth c H locs cells slots Q (F0 m pc ls st) :=
  m_ci (M' := fun (_ : Unit) => M') hr hS (fun r _ H1 locs1 e hM hS => by subst e; exact kk H1 locs1 hM hS)
theorem m_cpl {v : Int64} (hr : va_Run p l e R s m args below meth c H locs cells slots mc ms (F0 m pc ls st) rest (pQl g A v M' aa) A) (hS : va_S A s.heap H locs)
    (kk : ∀ (H1 : Heap) (locs1 : List Loc), mW g.1 A M' H1 → va_S A s.heap H1 locs1 → W p l e R s m args below meth c H1 locs1 (cells + mc) (slots + ms) Q (F0 m (pc + 3) ls (.long v :: rest))) : W p l e R s m args below meth c H locs cells slots Q (F0 m pc ls st) :=
  m_cl (M' := fun (_ : Unit) => M') hr hS (fun r _ H1 locs1 e hM hS => by subst e; exact kk H1 locs1 hM hS)
theorem m_cpv (hr : va_Run p l e R s m args below meth c H locs cells slots mc ms (F0 m pc ls st) rest (pQv g A M' aa) A) (hS : va_S A s.heap H locs)
    (kk : ∀ (H1 : Heap) (locs1 : List Loc), mW g.1 A M' H1 → va_S A s.heap H1 locs1 → W p l e R s m args below meth c H1 locs1 (cells + mc) (slots + ms) Q (F0 m (pc + 3) ls rest)) : W p l e R s m args below meth c H locs cells slots Q (F0 m pc ls st) :=
  m_cv (M' := fun (_ : Unit) => M') hr hS (fun _ H1 locs1 _ hM hS => kk H1 locs1 hM hS)
theorem m_cpr {v : Nat} (hr : va_Run p l e R s m args below meth c H locs cells slots mc ms (F0 m pc ls st) rest (pQr g A v M' aa) A) (hS : va_S A s.heap H locs)
    (kk : ∀ (H1 : Heap) (locs1 : List Loc), mW g.1 A M' H1 → va_S A s.heap H1 locs1 → W p l e R s m args below meth c H1 locs1 (cells + mc) (slots + ms) Q (F0 m (pc + 3) ls (.ref v :: rest))) : W p l e R s m args below meth c H locs cells slots Q (F0 m pc ls st) :=
  m_cr (M' := fun (_ : Unit) => M') (ra := fun _ a => a = v) hr hS (fun _ r H1 locs1 _ e hM hS => by subst e; exact kk H1 locs1 hM hS)
end MP
