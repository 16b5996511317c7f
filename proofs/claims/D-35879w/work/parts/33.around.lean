/-! NEIGHBOURS: rows over the iterator's object, its tables; calls by interface, on constant objects, of default methods -/
set_option maxRecDepth 100000
def mAr (M : MM) (q k n : Nat) : MM := mUp M 20 0 (q, .inr (4, [.int (nI k), .int (nI n)]))
def arR (n : Nat) : Int32 := if n = 0 then -1 else if n = 3 then 1 else 0
def arC (n : Nat) : Int32 := if n = 1 then -1 else if n = 2 then 1 else 0
def onR (k n : Nat) : Int32 := if nI (k / 5) + arR n < 0 then 0 else (if 5 ≤ nI (k / 5) + arR n then 0 else (if nI (k % 5) + arC n < 0 then 0 else (if 5 ≤ nI (k % 5) + arC n then 0 else 1)))
theorem onR_nar (k n : Nat) : narrow .boolean (.int (onR k n)) = .int (onR k n) := by
  unfold onR
  repeat' split
  all_goals rfl
theorem onR_eq0 : ∀ k, k < 25 → ∀ n, n < 4 → (onR k n = 0 ↔ besR (nI k) (nI n) = (-1)) := by decide +kernel
theorem onR_eq {k n : Nat} (hk : k < 25) (hn : n < 4) : onR k n = 0 ↔ besR (nI k) (nI n) = (-1) := onR_eq0 k hk n hn
theorem found_eq0 : ∀ k, k < 25 → ∀ n, n < 4 → ¬ onR k n = 0 → nI k + 5 * arR n + arC n = besR (nI k) (nI n) := by decide +kernel
def skpN (k : Nat) : Nat → Nat → Nat
  | 0, n => n
  | f + 1, n => if 4 ≤ n then n else if onR k n = 0 then skpN k f (n + 1) else n
theorem skpN_0 (k n : Nat) : skpN k 0 n = n := rfl
theorem skpN_s (k f n : Nat) : skpN k (f + 1) n = if 4 ≤ n then n else if onR k n = 0 then skpN k f (n + 1) else n := rfl
theorem skpN_le {k : Nat} : ∀ f n, n ≤ 4 → n ≤ skpN k f n ∧ skpN k f n ≤ 4 := by
  intro f
  induction f with
  | zero => intro n h; exact ⟨Nat.le_refl _, h⟩
  | succ f ih =>
    intro n h
    rw [skpN_s]
    by_cases h4 : 4 ≤ n
    · rw [if_pos h4]; exact ⟨Nat.le_refl _, h⟩
    · rw [if_neg h4]
      by_cases h0 : onR k n = 0
      · rw [if_pos h0]
        have := ih (n + 1) (by omega)
        omega
      · rw [if_neg h0]; exact ⟨Nat.le_refl _, h⟩
/-- where it stands there's a neighbour, or it's at its end -/
theorem skpN_on {k : Nat} : ∀ f n, n ≤ 4 → 4 ≤ n + f → skpN k f n < 4 → ¬ onR k (skpN k f n) = 0 := by
  intro f
  induction f with
  | zero =>
    intro n h h2 h3
    rw [skpN_0] at h3
    omega
  | succ f ih =>
    intro n h h2
    rw [skpN_s]
    by_cases h4 : 4 ≤ n
    · rw [if_pos h4]; intro h3; omega
    · rw [if_neg h4]
      by_cases h0 : onR k n = 0
      · rw [if_pos h0]; exact ih (n + 1) (by omega) (by omega)
      · rw [if_neg h0]; exact fun _ => h0
section AR
variable {p : Program} {l : Launch} {e : Env} {R : Room} {s : State} {m : MethodId} {args : Array Value} {below : List Frame} {meth : Method} {c : Code} {H : Heap} {locs : List Loc} {cells slots : Nat} {Q : State → Prop}
variable {cc : ByteArray} {pc nL : Nat} {ls : Array Slot} {rest : List Value} {g : GG} {A : Nat → Prop} {M : MM} {q k n : Nat}
theorem ar_get (S : CallFix p m c cc nL s args lw_all RX5) (hE : amb g A s s.heap) (hM : mW g.1 A (mAr M q k n) H) (f : Nat) (hf : f < 2) {index : Nat} (hl : Cond.fieldLink RX5 index "Wakeground$Around" (TX5 f).2.1 (TX5 f).2.2.1 ∈ lw_all) (hcls : (TX5 f).1 = "Wakeground$Around") {v : Value} (hv : [Value.int (nI k), .int (nI n)][f]? = some v) (hdg : decode cc pc = .ok (.getfield index, 3))
    (kk : W p l e R s m args below meth c H locs cells slots Q (F0 m (pc + 3) ls (v :: rest))) : W p l e R s m args below meth c H locs cells slots Q (F0 m pc ls (.ref q :: rest)) :=
  m_get S.1 S.2.1 S.2.2.2.2 in_X5 S.2.2.2.1 hE hM 20 0 (mUp_self _ _ _ _) (ci := 4) rfl f hf (S.2.2.2.2 _ hl) (fun _ h9 => by rw [hcls] at h9; exact h9) hv hdg kk
theorem ar_put (S : CallFix p m c cc nL s args lw_all RX5) (hE : amb g A s s.heap) (hM : mW g.1 A (mAr M q k n) H) (hS : va_S A s.heap H locs) (n' : Nat) {v : Int32} (hv : v = nI n') (hdg : decode cc pc = .ok (.putfield 22, 3))
    (kk : ∀ (H1 : Heap) (locs1 : List Loc), mW g.1 A (mAr M q k n') H1 → va_S A s.heap H1 locs1 → W p l e R s m args below meth c H1 locs1 cells slots Q (F0 m (pc + 3) ls rest)) : W p l e R s m args below meth c H locs cells slots Q (F0 m pc ls (.int v :: .ref q :: rest)) := by
  subst hv
  exact m_put S.1 S.2.1 S.2.2.2.2 in_X5 tyX5 tyX5_ok nmX5 S.2.2.2.1 hE hM hS 20 0 (mUp_self _ _ _ _) (ci := 4) rfl 1 (by decide) (S.2.2.2.2 _ q246) (fun _ h9 => h9) rfl (ty := .int) rfl rfl rfl (by show 1 < 2; decide) (M' := mAr M q k n') rfl (fun j i h => by unfold mAr; rw [mUp_ne _ _ h, mUp_ne _ _ h]) hdg (fun H1 locs1 h1 h2 => kk H1 locs1 h1 h2)
theorem ar_row (S : CallFix p m c cc nL s args lw_all RX5) (hE : amb g A s s.heap) (hS : va_S A s.heap H locs) (hdg : decode cc pc = .ok (.getstatic 18, 3)) (kk : W p l e R s m args below meth c H locs cells slots Q (F0 m (pc + 3) ls (.ref (g.2.2.2 1) :: rest))) : W p l e R s m args below meth c H locs cells slots Q (F0 m pc ls rest) :=
  va_gets S.1 S.2.1 hE.2.1.2.2.2.2.1 hS S.2.2.2.1 (S.2.2.2.2 _ q237) (fun _ h9 => h9) hdg kk
theorem ar_col (S : CallFix p m c cc nL s args lw_all RX5) (hE : amb g A s s.heap) (hS : va_S A s.heap H locs) (hdg : decode cc pc = .ok (.getstatic 25, 3)) (kk : W p l e R s m args below meth c H locs cells slots Q (F0 m (pc + 3) ls (.ref (g.2.2.2 2) :: rest))) : W p l e R s m args below meth c H locs cells slots Q (F0 m pc ls rest) :=
  va_gets S.1 S.2.1 hE.2.1.2.2.2.2.2.2.1 hS S.2.2.2.1 (S.2.2.2.2 _ q243) (fun _ h9 => h9) hdg kk
theorem ar_rowT (S : CallFix p m c cc nL s args lw_all RX5) (hE : amb g A s s.heap) (hS : va_S A s.heap H locs) (hn : n < 4) (hdg : decode cc pc = .ok (.iaload, 1)) (kk : W p l e R s m args below meth c H locs cells slots Q (F0 m (pc + 1) ls (.int (arR n) :: rest))) : W p l e R s m args below meth c H locs cells slots Q (F0 m pc ls (.int (nI n) :: .ref (g.2.2.2 1) :: rest)) :=
  va_ti S.1 S.2.1 hE.2.1.2.2.2.2.2.1 hS (vp_in_nI hn (by decide)) (v := .int (arR n)) (by rw [nI_clamp (by omega)]; rfl) hdg kk
theorem ar_colT (S : CallFix p m c cc nL s args lw_all RX5) (hE : amb g A s s.heap) (hS : va_S A s.heap H locs) (hn : n < 4) (hdg : decode cc pc = .ok (.iaload, 1)) (kk : W p l e R s m args below meth c H locs cells slots Q (F0 m (pc + 1) ls (.int (arC n) :: rest))) : W p l e R s m args below meth c H locs cells slots Q (F0 m pc ls (.int (nI n) :: .ref (g.2.2.2 2) :: rest)) :=
  va_ti S.1 S.2.1 hE.2.1.2.2.2.2.2.2.2.1 hS (vp_in_nI hn (by decide)) (v := .int (arC n)) (by rw [nI_clamp (by omega)]; rfl) hdg kk
theorem ar_len (S : CallFix p m c cc nL s args lw_all RX5) (hE : amb g A s s.heap) (hS : va_S A s.heap H locs) (hdg : decode cc pc = .ok (.arraylength, 1)) (kk : W p l e R s m args below meth c H locs cells slots Q (F0 m (pc + 1) ls (.int 4 :: rest))) : W p l e R s m args below meth c H locs cells slots Q (F0 m pc ls (.ref (g.2.2.2 1) :: rest)) :=
  va_tlen S.1 S.2.1 hE.2.1.2.2.2.2.2.1 hS (v := 4) rfl hdg kk
end AR
section AC
variable {p : Program} {l : Launch} {e : Env} {R : Room} {s : State} {m : MethodId} {args : Array Value} {below : List Frame} {meth : Method} {c : Code} {H : Heap} {locs : List Loc} {cells slots : Nat} {Q : State → Prop}
variable {cc bytes : ByteArray} {pc mc ms n nL maxL index count ci : Nat} {ls : Array Slot} {rest st As : List Value} {g : GG} {A : Nat → Prop} {a b : Nat} {M : MM} {x y : MethodName} {ret : Option FieldType} {ws Ts : List Cond} {rm : Room} {own C owner : String} {Qc : Array Value → State → Outcome → State → Prop} {M' : MM} {aa : Array Value}
/-- a call on an object that is no cell of ours -/
theorem m_rVa (S : CallFix p m c cc nL s args Ts own) (hMet : Met l y ws rm (va_Pc (.ref b :: As) (mPre g A M)) Qc mc ms A) (cw : CallW R s args own C index y bytes maxL ret ws rm mc ms n) (hE : amb g A s s.heap) (hA : ∀ q : Nat, s.heap.size ≤ q → A q) (hM : mW g.1 A M H) (hS : va_S A s.heap H locs) (hr : ∃ cell : Cell, H[b]? = some cell ∧ cell.vm.isStatics = false ∧ s.vm.findClass C = some cell.cls)
    (hn : As.length = n) (hsize : ls.size = nL) (hst : st = As.reverse ++ .ref b :: rest) (hW : (rest.map fun v => v.category).sum ≤ 8) (hdg : decode cc pc = .ok (.invokevirtual index, 3)) (hf : cells + mc ≤ R.cells ∧ slots + ms ≤ R.slots) :
    va_Run p l e R s m args below meth c H locs cells slots mc ms (F0 m pc ls st) rest (Qc (Value.ref b :: As).toArray) A :=
  va_runV S hMet cw ⟨mPre_blind _, hr, mPre_at hE hA hM hS _⟩ rfl hn hsize hst (lv_room hW) hdg hf
/-- an inherited method (a default one too) -/
theorem m_rU (S : CallFix p m c cc nL s args Ts own) (hMet : Met l y ws rm (va_Pc (.ref b :: As) (mPre g A M)) Qc mc ms A) (cw : va_CU R s args own C owner index x y bytes maxL ret ws rm mc ms n) (hE : amb g A s s.heap) (hA : ∀ q : Nat, s.heap.size ≤ q → A q) (hM : mW g.1 A M H) (hS : va_S A s.heap H locs) (k0 n0 : Nat) {T : u_T} {N : Nat} {fs : List Value} (he : M k0 n0 = some (b, .inr (ci, fs))) (hc : clW[ci]? = some (C, T, N))
    (hn : As.length = n) (hsize : ls.size = nL) (hst : st = As.reverse ++ .ref b :: rest) (hW : (rest.map fun v => v.category).sum ≤ 8) (hdg : decode cc pc = .ok (.invokevirtual index, 3)) (hf : cells + mc ≤ R.cells ∧ slots + ms ≤ R.slots) :
    va_Run p l e R s m args below meth c H locs cells slots mc ms (F0 m pc ls st) rest (Qc (Value.ref b :: As).toArray) A :=
  va_runU S hMet cw ⟨mPre_blind _, m_recv hE hM he hc, mPre_at hE hA hM hS _⟩ rfl hn hsize hst (lv_room hW) hdg hf
/-- by interface -/
theorem m_rF (S : CallFix p m c cc nL s args Ts own) (hMet : Met l y ws rm (va_Pc (.ref b :: As) (mPre g A M)) Qc mc ms A) (cw : va_CI R s args own C index x y bytes maxL ret ws rm mc ms n) (hE : amb g A s s.heap) (hA : ∀ q : Nat, s.heap.size ≤ q → A q) (hM : mW g.1 A M H) (hS : va_S A s.heap H locs) (k0 n0 : Nat) {T : u_T} {N : Nat} {fs : List Value} (he : M k0 n0 = some (b, .inr (ci, fs))) (hc : clW[ci]? = some (C, T, N))
    (hn : As.length = n) (hsize : ls.size = nL) (hst : st = As.reverse ++ .ref b :: rest) (hW : (rest.map fun v => v.category).sum ≤ 8) (hdg : decode cc pc = .ok (.invokeinterface index count, 5)) (hf : cells + mc ≤ R.cells ∧ slots + ms ≤ R.slots) :
    va_Run5 p l e R s m args below meth c H locs cells slots mc ms (F0 m pc ls st) rest (Qc (Value.ref b :: As).toArray) A :=
  va_runF (hE.1.1 ci _ hc).2 S hMet cw ⟨mPre_blind _, m_recv hE hM he hc, mPre_at hE hA hM hS _⟩ rfl hn hsize hst (lv_room hW) hdg hf
theorem m_cFi {v : Int32} (hr : va_Run5 p l e R s m args below meth c H locs cells slots mc ms (F0 m pc ls st) rest (pQi g A v M' aa) A) (hS : va_S A s.heap H locs)
    (kk : ∀ (H1 : Heap) (locs1 : List Loc), mW g.1 A M' H1 → va_S A s.heap H1 locs1 → W p l e R s m args below meth c H1 locs1 (cells + mc) (slots + ms) Q (F0 m (pc + 5) ls (.int v :: rest))) : W p l e R s m args below meth c H locs cells slots Q (F0 m pc ls st) :=
  va_callFi hr hS (fun _ _ h => h) (fun _ h => h) (fun r u t H1 locs1 ht _ hp hB _ _ hS1 => by subst hp; exact kk H1 locs1 (by rw [← ht]; exact hB) hS1)
theorem m_cFr {v : Nat} (hr : va_Run5 p l e R s m args below meth c H locs cells slots mc ms (F0 m pc ls st) rest (pQr g A v M' aa) A) (hS : va_S A s.heap H locs)
    (kk : ∀ (H1 : Heap) (locs1 : List Loc), mW g.1 A M' H1 → va_S A s.heap H1 locs1 → W p l e R s m args below meth c H1 locs1 (cells + mc) (slots + ms) Q (F0 m (pc + 5) ls (.ref v :: rest))) : W p l e R s m args below meth c H locs cells slots Q (F0 m pc ls st) :=
  va_callFr hr hS (fun _ _ h => h) (fun _ h => h) (fun u w t H1 locs1 ht _ hp hB _ _ hS1 => by obtain ⟨rfl, hB⟩ := hB; exact kk H1 locs1 (by rw [← ht]; exact hB) hS1)
theorem m_box (hE : amb g A s s.heap) (hS : va_S A s.heap H locs) {j : Nat} (hj : j < 256) : ∃ cell : Cell, H[g.2.2.1 j]? = some cell ∧ cell.vm.isStatics = false ∧ s.vm.findClass "java/lang/Integer" = some cell.cls := by
  obtain ⟨cell, h1, h2, h3, h4⟩ := (hE.2.1.1.1 j hj).kept hS.2.1
  exact ⟨cell, h1, h2, h3⟩
end AC
