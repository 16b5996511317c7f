/-! PLAIN LAWS: class function = reference function on the same state: melt, flow -/
set_option maxRecDepth 100000
theorem jmax_gre (a b : Int32) : jmax a b = greF a b := by
  unfold jmax greF
  by_cases h : a < b
  · rw [if_pos h, if_pos (Int32.le_of_lt h)]
  · rw [if_neg h]
    by_cases h2 : a ≤ b
    · rw [if_pos h2]; exact Int32.le_antisymm h2 (Int32.not_lt.mp h)
    · rw [if_neg h2]
theorem xor_nn {a b : Int32} (ha : 0 ≤ a) (hb : 0 ≤ b) : 0 ≤ a ^^^ b := by
  have key : ∀ x : Int32, 0 ≤ x ↔ x.toBitVec.msb = false := by
    intro x
    rw [Int32.le_iff_toInt_le, BitVec.msb_eq_toInt, decide_eq_false_iff_not]
    exact (Int.not_lt).symm
  rw [key] at ha hb ⊢
  rw [Int32.toBitVec_xor, BitVec.msb_xor, ha, hb]
  rfl
theorem bm32 {z : Int} (h1 : -2147483648 ≤ z) (h2 : z < 2147483648) : z.bmod (2 ^ 32) = z := by
  rw [Int.bmod_def]
  split <;> omega
theorem i32_rng (a : Int32) : -2147483648 ≤ a.toInt ∧ a.toInt < 2147483648 := ⟨a.le_toInt, a.toInt_lt⟩
theorem div_neg0 {en : Int32} (h : en < 1000) {d : Int32} (hd : d = 1000) : (en / d).toInt ≤ 0 ∧ -2147484 ≤ (en / d).toInt := by
  subst hd
  have e := Int32.lt_iff_toInt_lt.mp h
  rw [show (1000 : Int32).toInt = 1000 from rfl] at e
  have r := i32_rng en
  rw [Int32.toInt_div, show (1000 : Int32).toInt = 1000 from rfl]
  by_cases hn : 0 ≤ en.toInt
  · rw [Int.tdiv_eq_ediv_of_nonneg hn, bm32 (by omega) (by omega)]
    omega
  · have : en.toInt.tdiv 1000 = -((-en.toInt) / 1000) := by
      rw [← Int.tdiv_eq_ediv_of_nonneg (by omega), Int.neg_tdiv]
      omega
    rw [this, bm32 (by omega) (by omega)]
    omega
theorem mel_key {s : Nat} (hs : s < 100) (en : Int32) : jmax 0 (jmin (nI s) (jfd en 1000)) = if 1000 ≤ en then lesF (nI s) (en / 1000) else 0 := by
  by_cases h : 1000 ≤ en
  · rw [if_pos h]
    have h0 : (0 : Int32) ≤ en := Int32.le_trans (by decide) h
    have hd : jfd en 1000 = en / 1000 := by
      unfold jfd
      rw [if_pos (xor_nn h0 (by decide))]
    rw [hd, jmax_gre, jmin_les]
    have hp : 0 ≤ lesF (nI s) (en / 1000) := by
      obtain ⟨j, hj, rfl⟩ := nI_of (Int32.not_lt.mpr h0)
      rw [show (1000 : Int32) = nI 1000 from rfl, pk_div hj (by decide) (by decide)]
      unfold lesF
      split
      · exact nI_pos' (by omega)
      · exact nI_pos' (by omega)
    unfold greF
    rw [if_pos hp]
  · rw [if_neg h]
    have hlt : en < 1000 := Int32.not_le.mp h
    have hq := div_neg0 hlt rfl
    have hj : (jfd en 1000).toInt ≤ 0 := by
      unfold jfd
      split
      · exact hq.1
      · split
        · exact hq.1
        · rw [Int32.toInt_sub, show (1 : Int32).toInt = 1 from rfl, bm32 (by omega) (by omega)]
          omega
    have hm : jmin (nI s) (jfd en 1000) ≤ 0 := by
      unfold jmin
      split
      · rw [Int32.le_iff_toInt_le]; exact hj
      · rename_i h3
        refine Int32.le_trans (Int32.not_lt.mp h3) ?_
        rw [Int32.le_iff_toInt_le]; exact hj
    unfold jmax
    rw [if_neg (Int32.not_lt.mpr hm)]
def layK (x : St) (k : Nat) : Prop := okN (x.1 8 k) 10 ∧ okN (x.1 9 k) 10
theorem layK.s {x : St} {k : Nat} (h : layK x k) : x.1 8 k + x.1 9 k = nI (nt x 8 k + nt x 9 k) ∧ nt x 8 k < 10 ∧ nt x 9 k < 10 := by
  obtain ⟨⟨a, b⟩, ⟨c, d⟩⟩ := h
  refine ⟨?_, b, d⟩
  rw [a, c, nI_add]
  rfl
theorem cmel_mel {x : St} {k : Nat} (h : layK x k) : cmel x k = melF x k := by
  unfold cmel melF
  rw [h.s.1]
  exact mel_key (by have := h.s; omega) _
theorem cdr_sin {x : St} {k : Nat} (h : layK x k) : cdrG x k = sinG x k := by
  unfold cdrG sinG
  rw [cmel_mel h, jmax_gre]
/-- what drips is at most the excess -/
theorem sinG_le {x : St} {k : Nat} (h : layK x k) : ∃ o, sinG x k = nI o ∧ o ≤ nt x 9 k := by
  obtain ⟨hs, h8, h9⟩ := h.s
  have e8 : x.1 8 k = nI (nt x 8 k) := h.1.1
  have hm : ∃ m, melF x k = nI m ∧ m ≤ nt x 8 k + nt x 9 k := by
    unfold melF
    by_cases hh : 1000 ≤ x.1 10 k
    · rw [if_pos hh, hs]
      have h0 : (0 : Int32) ≤ x.1 10 k := Int32.le_trans (by decide) hh
      obtain ⟨j, hj, e⟩ := nI_of (Int32.not_lt.mpr h0)
      rw [e, show (1000 : Int32) = nI 1000 from rfl, pk_div hj (by decide) (by decide)]
      unfold lesF
      by_cases h3 : nI (j / 1000) ≤ nI (nt x 8 k + nt x 9 k)
      · rw [if_pos h3]
        exact ⟨_, rfl, (nI_leI (by omega) (by omega)).mp h3⟩
      · rw [if_neg h3]
        exact ⟨_, rfl, Nat.le_refl _⟩
    · rw [if_neg hh]
      exact ⟨0, rfl, Nat.zero_le _⟩
  obtain ⟨m, em, hm⟩ := hm
  unfold sinG
  rw [em, e8]
  by_cases hc : nt x 8 k ≤ m
  · rw [pk_sub hc]
    unfold greF
    rw [if_pos (nI_pos' (by omega))]
    exact ⟨_, rfl, by omega⟩
  · have : nI m - nI (nt x 8 k) < 0 := pk_sneg (by omega) (by omega)
    unfold greF
    rw [if_neg (Int32.not_le.mpr this)]
    exact ⟨0, rfl, Nat.zero_le _⟩
theorem cmlS_sin {x : St} {c l : Nat} (hl : l < 5) (h : layK x (5 * c + l)) : cmlS c x l = sinF x (5 * c + l) := by
  have e5 : (5 * c + l) / 5 = c := by omega
  unfold cmlS cdrF sinF
  rw [cdr_sin h, e5, sI_o (show ¬ (10 = 9 ∧ 5 * c + l = 5 * c + l) from fun q => absurd q.1 (by decide)), sI_o (show ¬ (2 = 10 ∧ _ = _) from fun q => absurd q.1 (by decide)), sI_o (show ¬ (2 = 9 ∧ _ = _) from fun q => absurd q.1 (by decide)), sI_o (show ¬ (3 = 2 ∧ _ = _) from fun q => absurd q.1 (by decide)), sI_o (show ¬ (3 = 10 ∧ _ = _) from fun q => absurd q.1 (by decide)), sI_o (show ¬ (3 = 9 ∧ _ = _) from fun q => absurd q.1 (by decide))]
/-- layers in range stay so -/
theorem layK_sin {x : St} (h : ∀ k, k < 125 → layK x k) {j : Nat} (hj : j < 125) : ∀ k, k < 125 → layK (sinF x j) k := by
  intro k hk
  obtain ⟨o, eo, ho⟩ := sinG_le (h j hj)
  have e8 : (sinF x j).1 8 k = x.1 8 k := by
    unfold sinF
    rw [sI_o (fun q => absurd q.1 (by decide)), sI_o (fun q => absurd q.1 (by decide)), sI_o (fun q => absurd q.1 (by decide)), sI_o (fun q => absurd q.1 (by decide))]
  have e9 : (sinF x j).1 9 k = if k = j then nI (nt x 9 j - o) else x.1 9 k := by
    unfold sinF
    rw [sI_o (fun q => absurd q.1 (by decide)), sI_o (fun q => absurd q.1 (by decide)), sI_o (fun q => absurd q.1 (by decide)), sI_1]
    by_cases hkj : k = j
    · subst hkj
      rw [if_pos ⟨rfl, rfl⟩, if_pos rfl, eo, show x.1 9 k = nI (nt x 9 k) from (h k hk).2.1, pk_sub ho]
    · rw [if_neg (fun q => hkj q.2), if_neg hkj]
  refine ⟨?_, ?_⟩
  · rw [e8]; exact (h k hk).1
  · rw [e9]
    by_cases hkj : k = j
    · rw [if_pos hkj]
      have := (h j hj).2.2
      refine okN_nI ?_ (by decide)
      unfold nt
      omega
    · rw [if_neg hkj]; exact (h k hk).2
theorem layK_sinL {x : St} (h : ∀ k, k < 125 → layK x k) : ∀ n, n ≤ 125 → ∀ k, k < 125 → layK (it sinF x n) k := by
  intro n
  induction n with
  | zero => intro _; exact h
  | succ n ih =>
    intro hn
    rw [it_succ]
    exact layK_sin (ih (by omega)) (by omega)
theorem it5 {α : Type} (f : α → Nat → α) (a : α) (m : Nat) : it f a (m + 5) = f (f (f (f (f (it f a m) m) (m + 1)) (m + 2)) (m + 3)) (m + 4) := rfl
theorem it4 {α : Type} (f : α → Nat → α) (a : α) : it f a 4 = f (f (f (f a 0) 1) 2) 3 := rfl
theorem cml_5 {y : St} {c : Nat} (hc : c < 25) (h : ∀ k, k < 125 → layK y k) : cmlF y c = sinF (sinF (sinF (sinF (sinF y (5 * c)) (5 * c + 1)) (5 * c + 2)) (5 * c + 3)) (5 * c + 4) := by
  unfold cmlF
  have h1 := layK_sin h (j := 5 * c) (by omega)
  have h2 := layK_sin h1 (j := 5 * c + 1) (by omega)
  have h3 := layK_sin h2 (j := 5 * c + 2) (by omega)
  have h4 := layK_sin h3 (j := 5 * c + 3) (by omega)
  rw [cmlS_sin (l := 0) (by decide) (h _ (by omega)), show 5 * c + 0 = 5 * c from rfl, cmlS_sin (l := 1) (by decide) (h1 _ (by omega)), cmlS_sin (l := 2) (by decide) (h2 _ (by omega)), cmlS_sin (l := 3) (by decide) (h3 _ (by omega)), cmlS_sin (l := 4) (by decide) (h4 _ (by omega))]
theorem cml_sin {x : St} (h : ∀ k, k < 125 → layK x k) : ∀ n, n ≤ 25 → it cmlF x n = it sinF x (5 * n) := by
  intro n
  induction n with
  | zero => intro _; exact (it_zero _ _).trans (it_zero _ _).symm
  | succ n ih =>
    intro hn
    have e : 5 * (n + 1) = 5 * n + 5 := by omega
    rw [it_succ, ih (by omega), cml_5 (by omega) (layK_sinL h (5 * n) (by omega)), e, it5]
/-! the neighbours -/
theorem nb_fold {S : Type} (k : Nat) (stp : Nat → S → S) (s : S) : nbF k stp 4 (skpN k 4 0) s = it (fun s d => if onR k d = 0 then s else stp (nbN k d) s) s 4 := by
  rw [it4]
  by_cases h0 : onR k 0 = 0 <;> by_cases h1 : onR k 1 = 0 <;> by_cases h2 : onR k 2 = 0 <;> by_cases h3 : onR k 3 = 0 <;> simp [nbF, skpN, h0, h1, h2, h3]
theorem nb_key : ∀ k, k < 25 → ∀ d, d < 4 → (onR k d = 0 ∧ besR (nI k) (nI d) = (-1)) ∨ (¬ onR k d = 0 ∧ besR (nI k) (nI d) = nI (nbN k d) ∧ nbN k d < 25 ∧ nbN k d ≠ k ∧ ¬ besR (nI k) (nI d) = (-1)) := by decide +kernel
theorem nb_some : ∀ k, k < 25 → ∃ d, d < 4 ∧ ¬ onR k d = 0 := by decide +kernel
