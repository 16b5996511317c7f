/-! THE STATE (ints by field and place, longs by field; the fields are the reference's, TX4), and the reference's memory. -/
set_option maxRecDepth 100000
abbrev St : Type := (Nat → Nat → Int32) × (Nat → Int64)
def sI (x : St) (f k : Nat) (v : Int32) : St := (fun h j => if h = f ∧ j = k then v else x.1 h j, x.2)
def sL (x : St) (f : Nat) (v : Int64) : St := (x.1, fun h => if h = f then v else x.2 h)
theorem sI_1 (x : St) (f k : Nat) (v : Int32) (h j : Nat) : (sI x f k v).1 h j = if h = f ∧ j = k then v else x.1 h j := rfl
theorem sI_2 (x : St) (f k : Nat) (v : Int32) (h : Nat) : (sI x f k v).2 h = x.2 h := rfl
theorem sL_1 (x : St) (f : Nat) (v : Int64) (h j : Nat) : (sL x f v).1 h j = x.1 h j := rfl
theorem sL_2 (x : St) (f : Nat) (v : Int64) (h : Nat) : (sL x f v).2 h = if h = f then v else x.2 h := rfl
theorem sI_up (x : St) (f k : Nat) (v : Int32) : (sI x f k v).1 f = va_up (x.1 f) k v := by
  funext j
  simp [sI, va_up]
theorem sI_ne (x : St) (f k : Nat) (v : Int32) {h : Nat} (hh : h ≠ f) : (sI x f k v).1 h = x.1 h := by
  funext j
  simp [sI, hh]
def mArr (f : Nat) : Bool := (2 ≤ f && f ≤ 12) || (14 ≤ f && f ≤ 18) || (20 ≤ f && f ≤ 23) || f == 25
def mLen (f : Nat) : Nat := if f ≤ 7 then 25 else if f ≤ 12 then 125 else if f = 23 then 30000 else if f = 25 then 40 else 10
theorem mLen_lt (f : Nat) : mLen f < 2 ^ 31 := by
  unfold mLen
  repeat' split
  all_goals decide
def mF (ad : Nat → Nat → Nat) (x : St) : List Value := [.int (x.1 0 0), .int (x.1 1 0), .ref (ad 31 2), .ref (ad 31 3), .ref (ad 31 4), .ref (ad 31 5), .ref (ad 31 6), .ref (ad 31 7), .ref (ad 31 8), .ref (ad 31 9), .ref (ad 31 10), .ref (ad 31 11), .ref (ad 31 12), .int (x.1 13 0), .ref (ad 31 14), .ref (ad 31 15), .ref (ad 31 16), .ref (ad 31 17), .ref (ad 31 18), .int (x.1 19 0), .ref (ad 31 20), .ref (ad 31 21), .ref (ad 31 22), .ref (ad 31 23), .int (x.1 24 0), .ref (ad 31 25), .long (x.2 26), .long (x.2 27), .long (x.2 28), .long (x.2 29), .long (x.2 30), .long (x.2 31)]
def mwM (g : GG) (ad : Nat → Nat → Nat) (x : St) : MM := fun k n =>
  if k = 30 then (if n = 0 then some (ad 30 0, .inr (1, mF ad x)) else none)
  else if k = 31 then (if mArr n = true then some (ad 31 n, .inl (g.2.1 (if n = 16 then 2 else 0), mLen n, .inl (x.1 n))) else none) else none
theorem mwM_o (g : GG) (ad : Nat → Nat → Nat) (x : St) : mwM g ad x 30 0 = some (ad 30 0, .inr (1, mF ad x)) := rfl
theorem mwM_a (g : GG) (ad : Nat → Nat → Nat) (x : St) {n : Nat} (h : mArr n = true) : mwM g ad x 31 n = some (ad 31 n, .inl (g.2.1 (if n = 16 then 2 else 0), mLen n, .inl (x.1 n))) := by
  simp [mwM, h]
theorem mwM_puti (g : GG) (ad : Nat → Nat → Nat) (x : St) {f : Nat} (hf : mArr f = false) (v : Int32) : ∀ j i : Nat, ¬ (j = 30 ∧ i = 0) → mwM g ad (sI x f 0 v) j i = mwM g ad x j i := by
  intro j i h
  unfold mwM
  by_cases h1 : j = 30
  · have h2 : i ≠ 0 := fun q => h ⟨h1, q⟩
    simp [h1, h2]
  · by_cases h3 : j = 31
    · subst h3
      by_cases h4 : mArr i = true
      · have h5 : i ≠ f := fun q => by rw [q, hf] at h4; cases h4
        simp only [h1, if_false, if_true, h4, sI_ne x f 0 v h5]
      · simp [h4]
    · simp [h1, h3]
theorem mwM_putl (g : GG) (ad : Nat → Nat → Nat) (x : St) (f : Nat) (v : Int64) : ∀ j i : Nat, ¬ (j = 30 ∧ i = 0) → mwM g ad (sL x f v) j i = mwM g ad x j i := by
  intro j i h
  unfold mwM
  by_cases h1 : j = 30
  · have h2 : i ≠ 0 := fun q => h ⟨h1, q⟩
    simp [h1, h2]
  · simp [h1, sL]
theorem mwM_ast (g : GG) (ad : Nat → Nat → Nat) (x : St) {f : Nat} (hf : mArr f = true) (k : Nat) (v : Int32) : ∀ j i : Nat, ¬ (j = 31 ∧ i = f) → mwM g ad (sI x f k v) j i = mwM g ad x j i := by
  intro j i h
  unfold mwM
  by_cases h1 : j = 30
  · have e : mF ad (sI x f k v) = mF ad x := by
      have n0 : (0 : Nat) ≠ f := fun q => by subst q; simp [mArr] at hf
      have n1 : (1 : Nat) ≠ f := fun q => by subst q; simp [mArr] at hf
      have n13 : (13 : Nat) ≠ f := fun q => by subst q; simp [mArr] at hf
      have n19 : (19 : Nat) ≠ f := fun q => by subst q; simp [mArr] at hf
      have n24 : (24 : Nat) ≠ f := fun q => by subst q; simp [mArr] at hf
      simp [mF, sI, n0, n1, n13, n19, n24]
    simp [h1, e]
  · by_cases h3 : j = 31
    · have h5 : i ≠ f := fun q => h ⟨h3, q⟩
      subst h3
      rw [sI_ne x f k v h5]
      simp
    · simp [h1, h3]
section MM4
variable {p : Program} {l : Launch} {e : Env} {R : Room} {s : State} {m : MethodId} {args : Array Value} {below : List Frame} {meth : Method} {c : Code} {H : Heap} {locs : List Loc} {cells slots : Nat} {Q : State → Prop}
variable {cc : ByteArray} {pc nL : Nat} {ls : Array Slot} {rest : List Value} {g : GG} {A : Nat → Prop} {a : Nat} {ad : Nat → Nat → Nat} {x : St}
theorem m_topI {x y : Int32} (h : x = y) (k : W p l e R s m args below meth c H locs cells slots Q (F0 m pc ls (.int y :: rest))) : W p l e R s m args below meth c H locs cells slots Q (F0 m pc ls (.int x :: rest)) := by rw [h]; exact k
theorem m_nameI {x : Int32} (k : ∀ y : Int32, x = y → W p l e R s m args below meth c H locs cells slots Q (F0 m pc ls (.int y :: rest))) : W p l e R s m args below meth c H locs cells slots Q (F0 m pc ls (.int x :: rest)) := k x rfl
theorem m_nameL {x : Int64} (k : ∀ y : Int64, x = y → W p l e R s m args below meth c H locs cells slots Q (F0 m pc ls (.long y :: rest))) : W p l e R s m args below meth c H locs cells slots Q (F0 m pc ls (.long x :: rest)) := k x rfl
theorem m_topL {x y : Int64} (h : x = y) (k : W p l e R s m args below meth c H locs cells slots Q (F0 m pc ls (.long y :: rest))) : W p l e R s m args below meth c H locs cells slots Q (F0 m pc ls (.long x :: rest)) := by rw [h]; exact k
theorem mm_get (S : CallFix p m c cc nL s args lw_all RX4) (hE : amb g A s s.heap) (hM : mW g.1 A (mwM g ad x) H) (f : Nat) (hf : f < 32) {index : Nat} (hl : Cond.fieldLink RX4 index "WakegroundModel" (TX4 f).2.1 (TX4 f).2.2.1 ∈ lw_all) (hcls : (TX4 f).1 = "WakegroundModel") {v : Value} (hv : (mF ad x)[f]? = some v) (hdg : decode cc pc = .ok (.getfield index, 3))
    (kk : W p l e R s m args below meth c H locs cells slots Q (F0 m (pc + 3) ls (v :: rest))) : W p l e R s m args below meth c H locs cells slots Q (F0 m pc ls (.ref (ad 30 0) :: rest)) :=
  m_get S.1 S.2.1 S.2.2.2.2 in_X4 S.2.2.2.1 hE hM 30 0 (mwM_o g ad x) (ci := 1) rfl f hf (S.2.2.2.2 _ hl) (fun _ h9 => by rw [hcls] at h9; exact h9) hv hdg kk
theorem mm_puti (S : CallFix p m c cc nL s args lw_all RX4) (hE : amb g A s s.heap) (hM : mW g.1 A (mwM g ad x) H) (hS : va_S A s.heap H locs) (f : Nat) (hf : f < 32) (ha : mArr f = false) {index : Nat} (hl : Cond.fieldLink RX4 index "WakegroundModel" (TX4 f).2.1 (TX4 f).2.2.1 ∈ lw_all) (hcls : (TX4 f).1 = "WakegroundModel") (hfin : (TX4 f).2.2.2 = false) (hd : parseFieldDescriptor (TX4 f).2.2.1 = some .int) (v : Int32) (hs : (mF ad x).set f (.int v) = mF ad (sI x f 0 v)) (hdg : decode cc pc = .ok (.putfield index, 3))
    (kk : ∀ (x' : St) (H1 : Heap) (locs1 : List Loc), sI x f 0 v = x' → mW g.1 A (mwM g ad x') H1 → va_S A s.heap H1 locs1 → W p l e R s m args below meth c H1 locs1 cells slots Q (F0 m (pc + 3) ls rest)) : W p l e R s m args below meth c H locs cells slots Q (F0 m pc ls (.int v :: .ref (ad 30 0) :: rest)) :=
  m_put S.1 S.2.1 S.2.2.2.2 in_X4 tyX4 tyX4_ok nmX4 S.2.2.2.1 hE hM hS 30 0 (mwM_o g ad x) (ci := 1) rfl f hf (S.2.2.2.2 _ hl) (fun _ h9 => by rw [hcls] at h9; exact h9) hfin hd rfl rfl hf (M' := mwM g ad (sI x f 0 v)) (by rw [hs]; exact mwM_o g ad _) (mwM_puti g ad x ha v) hdg (fun H1 locs1 h1 h2 => kk _ H1 locs1 rfl h1 h2)
theorem mm_putl (S : CallFix p m c cc nL s args lw_all RX4) (hE : amb g A s s.heap) (hM : mW g.1 A (mwM g ad x) H) (hS : va_S A s.heap H locs) (f : Nat) (hf : f < 32) {index : Nat} (hl : Cond.fieldLink RX4 index "WakegroundModel" (TX4 f).2.1 (TX4 f).2.2.1 ∈ lw_all) (hcls : (TX4 f).1 = "WakegroundModel") (hfin : (TX4 f).2.2.2 = false) (hd : parseFieldDescriptor (TX4 f).2.2.1 = some .long) (v : Int64) (hs : (mF ad x).set f (.long v) = mF ad (sL x f v)) (hdg : decode cc pc = .ok (.putfield index, 3))
    (kk : ∀ (x' : St) (H1 : Heap) (locs1 : List Loc), sL x f v = x' → mW g.1 A (mwM g ad x') H1 → va_S A s.heap H1 locs1 → W p l e R s m args below meth c H1 locs1 cells slots Q (F0 m (pc + 3) ls rest)) : W p l e R s m args below meth c H locs cells slots Q (F0 m pc ls (.long v :: .ref (ad 30 0) :: rest)) :=
  m_put S.1 S.2.1 S.2.2.2.2 in_X4 tyX4 tyX4_ok nmX4 S.2.2.2.1 hE hM hS 30 0 (mwM_o g ad x) (ci := 1) rfl f hf (S.2.2.2.2 _ hl) (fun _ h9 => by rw [hcls] at h9; exact h9) hfin hd rfl rfl hf (M' := mwM g ad (sL x f v)) (by rw [hs]; exact mwM_o g ad _) (mwM_putl g ad x f v) hdg (fun H1 locs1 h1 h2 => kk _ H1 locs1 rfl h1 h2)
theorem mm_ald (S : CallFix p m c cc nL s args lw_all RX4) (hE : amb g A s s.heap) (hM : mW g.1 A (mwM g ad x) H) (f : Nat) (ha : mArr f = true) (h16 : f ≠ 16) (j : Nat) (hj : j < mLen f) {i : Int32} (hi : i = nI j) (hdg : decode cc pc = .ok (.iaload, 1))
    (kk : W p l e R s m args below meth c H locs cells slots Q (F0 m (pc + 1) ls (.int (x.1 f j) :: rest))) : W p l e R s m args below meth c H locs cells slots Q (F0 m pc ls (.int i :: .ref (ad 31 f) :: rest)) := by
  have he := mwM_a g ad x ha
  rw [if_neg h16] at he
  exact m_iald S.1 S.2.1 hE hM 31 f he j hj (mLen_lt f) hi hdg kk
theorem mm_zald (S : CallFix p m c cc nL s args lw_all RX4) (hE : amb g A s s.heap) (hM : mW g.1 A (mwM g ad x) H) (j : Nat) (hj : j < 10) {i : Int32} (hi : i = nI j) (hdg : decode cc pc = .ok (.baload, 1))
    (kk : W p l e R s m args below meth c H locs cells slots Q (F0 m (pc + 1) ls (.int (x.1 16 j) :: rest))) : W p l e R s m args below meth c H locs cells slots Q (F0 m pc ls (.int i :: .ref (ad 31 16) :: rest)) :=
  m_zald S.1 S.2.1 hE hM 31 16 (mwM_a g ad x rfl) j hj (by decide) hi hdg kk
theorem mm_ast (S : CallFix p m c cc nL s args lw_all RX4) (hE : amb g A s s.heap) (hM : mW g.1 A (mwM g ad x) H) (hS : va_S A s.heap H locs) (f : Nat) (ha : mArr f = true) (h16 : f ≠ 16) (j : Nat) (hj : j < mLen f) {i v : Int32} (hi : i = nI j) (hdg : decode cc pc = .ok (.iastore, 1))
    (kk : ∀ (x' : St) (H1 : Heap) (locs1 : List Loc), sI x f j v = x' → mW g.1 A (mwM g ad x') H1 → va_S A s.heap H1 locs1 → W p l e R s m args below meth c H1 locs1 cells slots Q (F0 m (pc + 1) ls rest)) : W p l e R s m args below meth c H locs cells slots Q (F0 m pc ls (.int v :: .int i :: .ref (ad 31 f) :: rest)) := by
  have he := mwM_a g ad x ha
  have he2 := mwM_a g ad (sI x f j v) ha
  rw [if_neg h16] at he he2
  rw [sI_up] at he2
  exact m_iast S.1 S.2.1 hE hM hS 31 f he j hj (mLen_lt f) hi (M' := mwM g ad (sI x f j v)) he2 (mwM_ast g ad x ha j v) hdg (fun H1 locs1 h1 h2 => kk _ H1 locs1 rfl h1 h2)
theorem mm_zast (S : CallFix p m c cc nL s args lw_all RX4) (hE : amb g A s s.heap) (hM : mW g.1 A (mwM g ad x) H) (hS : va_S A s.heap H locs) (j : Nat) (hj : j < 10) {i v : Int32} (hz : vp_nar .boolean v = v) (hi : i = nI j) (hdg : decode cc pc = .ok (.bastore, 1))
    (kk : ∀ (x' : St) (H1 : Heap) (locs1 : List Loc), sI x 16 j v = x' → mW g.1 A (mwM g ad x') H1 → va_S A s.heap H1 locs1 → W p l e R s m args below meth c H1 locs1 cells slots Q (F0 m (pc + 1) ls rest)) : W p l e R s m args below meth c H locs cells slots Q (F0 m pc ls (.int v :: .int i :: .ref (ad 31 16) :: rest)) := by
  have he2 := mwM_a g ad (sI x 16 j v) (n := 16) rfl
  rw [sI_up] at he2
  exact m_zast S.1 S.2.1 hE hM hS 31 16 (mwM_a g ad x rfl) j hj (by decide) hi hz (M' := mwM g ad (sI x 16 j v)) he2 (mwM_ast g ad x rfl j v) hdg (fun H1 locs1 h1 h2 => kk _ H1 locs1 rfl h1 h2)
end MM4
