/-! ONE STATE FOR BOTH: what class and reference share; a state that serves both memories -/
set_option maxRecDepth 100000
def agr (x y : St) : Prop := (x.1 1 0 = y.1 1 0 ∧ x.1 13 0 = y.1 13 0 ∧ x.1 19 0 = y.1 19 0 ∧ x.1 24 0 = y.1 24 0) ∧ (∀ k, k < 25 → x.1 2 k = y.1 2 k ∧ x.1 3 k = y.1 3 k ∧ x.1 4 k = y.1 4 k ∧ x.1 5 k = y.1 5 k ∧ x.1 6 k = y.1 6 k) ∧
  (∀ k, k < 125 → x.1 8 k = y.1 8 k ∧ x.1 9 k = y.1 9 k ∧ x.1 10 k = y.1 10 k ∧ x.1 11 k = y.1 11 k) ∧ (∀ k, k < nt x 13 0 → x.1 14 k = y.1 14 k ∧ x.1 15 k = y.1 15 k ∧ x.1 16 k = y.1 16 k ∧ x.1 18 k = y.1 18 k ∧ x.1 17 k = y.1 17 k) ∧
  (∀ k, k < nt x 19 0 → x.1 20 k = y.1 20 k ∧ x.1 21 k = y.1 21 k ∧ x.1 22 k = y.1 22 k ∧ ∀ t, t < 3000 → x.1 23 (3000 * k + t) = y.1 23 (3000 * k + t)) ∧ (∀ k, k < nt x 24 0 → x.1 25 k = y.1 25 k) ∧ ∀ f, 26 ≤ f → f ≤ 31 → x.2 f = y.2 f
def mrg (x y : St) : St := (fun f k => if 40 ≤ f then x.1 f k else y.1 f k, y.2)
theorem mrg_c {x y : St} {f k : Nat} (h : 40 ≤ f) : (mrg x y).1 f k = x.1 f k := if_pos h
theorem mrg_m {x y : St} {f k : Nat} (h : ¬ 40 ≤ f) : (mrg x y).1 f k = y.1 f k := if_neg h
theorem mrg_mf {x y : St} {f : Nat} (h : ¬ 40 ≤ f) : (mrg x y).1 f = y.1 f := funext (fun _ => if_neg h)
theorem mrg_cf {x y : St} {f : Nat} (h : 40 ≤ f) : (mrg x y).1 f = x.1 f := funext (fun _ => if_pos h)
/-- in all fields and places that they share -/
def eqv (x y : St) : Prop := (∀ f, f ≠ 0 → f ≠ 7 → f ≠ 12 → f < 40 → x.1 f = y.1 f) ∧ x.2 = y.2
theorem eqv.agr {x y : St} (h : eqv x y) : agr x y := by
  obtain ⟨h1, h2⟩ := h
  have k : ∀ f, (f ≠ 0 ∧ f ≠ 7 ∧ f ≠ 12 ∧ f < 40) → ∀ j, x.1 f j = y.1 f j := fun f q j => congrFun (h1 f q.1 q.2.1 q.2.2.1 q.2.2.2) j
  exact ⟨⟨k 1 (by decide) 0, k 13 (by decide) 0, k 19 (by decide) 0, k 24 (by decide) 0⟩, fun j _ => ⟨k 2 (by decide) j, k 3 (by decide) j, k 4 (by decide) j, k 5 (by decide) j, k 6 (by decide) j⟩, fun j _ => ⟨k 8 (by decide) j, k 9 (by decide) j, k 10 (by decide) j, k 11 (by decide) j⟩,
    fun j _ => ⟨k 14 (by decide) j, k 15 (by decide) j, k 16 (by decide) j, k 18 (by decide) j, k 17 (by decide) j⟩, fun j _ => ⟨k 20 (by decide) j, k 21 (by decide) j, k 22 (by decide) j, fun t _ => k 23 (by decide) _⟩, fun j _ => k 25 (by decide) j, fun f _ _ => congrFun h2 f⟩
theorem eqv.rf (x : St) : eqv x x := ⟨fun _ _ _ _ _ => rfl, rfl⟩
theorem eqv.tr {x y z : St} (h : eqv x y) (h2 : eqv y z) : eqv x z := ⟨fun f a b c d => (h.1 f a b c d).trans (h2.1 f a b c d), h.2.trans h2.2⟩
theorem eqv.sy {x y : St} (h : eqv x y) : eqv y x := ⟨fun f a b c d => (h.1 f a b c d).symm, h.2.symm⟩
theorem cw_mrg {g : GG} {ad : Nat → Nat → Nat} {Mx : MM} {x y : St} (h : agr x y) : ∀ j k, cwM g ad Mx (mrg x y) j k = cwM g ad Mx x j k := by
  obtain ⟨⟨a1, a13, a19, a24⟩, a2, a8, a14, a20, a25, aL⟩ := h
  have n13 : nt (mrg x y) 13 0 = nt x 13 0 := by unfold nt; rw [mrg_m (by decide), a13]
  have n19 : nt (mrg x y) 19 0 = nt x 19 0 := by unfold nt; rw [mrg_m (by decide), a19]
  have n24 : nt (mrg x y) 24 0 = nt x 24 0 := by unfold nt; rw [mrg_m (by decide), a24]
  have e13 : (mrg x y).1 13 0 = x.1 13 0 := by rw [mrg_m (by decide), a13]
  have e19 : (mrg x y).1 19 0 = x.1 19 0 := by rw [mrg_m (by decide), a19]
  have e24 : (mrg x y).1 24 0 = x.1 24 0 := by rw [mrg_m (by decide), a24]
  have n54 : ∀ k, nt (mrg x y) 54 k = nt x 54 k := fun k => by unfold nt; rw [mrg_c (by decide)]
  have eL : ∀ f, 26 ≤ f → f ≤ 31 → (mrg x y).2 f = x.2 f := fun f p q => (aL f p q).symm
  have ec : ∀ k, cCnt (mrg x y) k = cCnt x k := fun k => by unfold cCnt; rw [e13, e19, e24]
  intro j k
  by_cases hj11 : 11 < j
  · rw [cw_ext hj11, cw_ext hj11]
  have h12j : j = 0 ∨ j = 1 ∨ j = 2 ∨ j = 3 ∨ j = 4 ∨ j = 5 ∨ j = 6 ∨ j = 7 ∨ j = 8 ∨ j = 9 ∨ j = 10 ∨ j = 11 := by omega
  rcases h12j with rfl | rfl | rfl | rfl | rfl | rfl | rfl | rfl | rfl | rfl | rfl | rfl
  · by_cases hk : k = 0
    · subst hk
      rw [cw_0, cw_0]
      unfold cMain
      rw [eL 29 (by decide) (by decide), mrg_m (by decide), a1]
    · rw [cwn_0 hk, cwn_0 hk]
  · by_cases hk : k = 0
    · subst hk
      rw [cw_1, cw_1]
    · rw [cwn_1 hk, cwn_1 hk]
  · by_cases hk : k < 25
    · obtain ⟨b2, b3, b4, b5, b6⟩ := a2 k hk
      have eh : cHou ad (mrg x y) k = cHou ad x k := by unfold cHou nt; rw [mrg_c (by decide)]
      rw [cw_2 hk, cw_2 hk]
      unfold cCell
      rw [eh, mrg_m (by decide), mrg_m (by decide), mrg_m (by decide), mrg_m (by decide), mrg_m (by decide), b2, b3, b4, b5, b6]
    · rw [cwn_2 hk, cwn_2 hk]
  · by_cases hk : k < 25
    · rw [cw_3 hk, cw_3 hk]
    · rw [cwn_3 hk, cwn_3 hk]
  · by_cases hk : k < 125
    · obtain ⟨b8, b9, b10, b11⟩ := a8 k hk
      rw [cw_4 hk, cw_4 hk]
      unfold cLay
      rw [mrg_m (by decide), mrg_m (by decide), mrg_m (by decide), mrg_m (by decide), b8, b9, b10, b11]
    · rw [cwn_4 hk, cwn_4 hk]
  · by_cases hk : k < 3
    · rw [cw_5 hk, cw_5 hk]
      unfold cList cEl
      rw [n54, ec, mrg_c (by decide)]
    · rw [cwn_5 hk, cwn_5 hk]
  · by_cases hk : k < 3 ∧ nt x 54 k ≠ 0
    · have e : cArr ad (mrg x y) k = cArr ad x k := by unfold cArr; rw [ec]
      rw [cw_6 hk.1 hk.2, cw_6 hk.1 (by rw [n54]; exact hk.2), n54, e]
    · rw [cwn_6 hk, cwn_6 (by rw [n54]; exact hk)]
  · by_cases hk : k < nt x 13 0
    · obtain ⟨b1, b2, b3, b4, b5⟩ := a14 k hk
      rw [cw_7 hk, cw_7 (by rw [n13]; exact hk)]
      unfold cHouse nt
      rw [mrg_m (by decide), mrg_m (by decide), mrg_m (by decide), mrg_m (by decide), mrg_m (by decide), b1, b2, b3, b4, b5]
    · rw [cwn_7 hk, cwn_7 (by rw [n13]; exact hk)]
  · by_cases hk : k < nt x 19 0
    · obtain ⟨b1, b2, b3, -⟩ := a20 k hk
      rw [cw_8 hk, cw_8 (by rw [n19]; exact hk)]
      unfold cHole nt
      rw [mrg_m (by decide), mrg_m (by decide), mrg_m (by decide), b1, b2, b3]
    · rw [cwn_8 hk, cwn_8 (by rw [n19]; exact hk)]
  · by_cases hk : k < nt x 19 0
    · obtain ⟨-, -, -, b4⟩ := a20 k hk
      have e : cRead (mrg x y) k = cRead x k := by
        funext t
        unfold cRead
        by_cases ht : t < 3000
        · rw [if_pos ht, if_pos ht, mrg_m (by decide), b4 t ht]
        · rw [if_neg ht, if_neg ht]
      rw [cw_9 hk, cw_9 (by rw [n19]; exact hk), e]
    · rw [cwn_9 hk, cwn_9 (by rw [n19]; exact hk)]
  · by_cases hk : k < nt x 24 0
    · rw [cw_10 hk, cw_10 (by rw [n24]; exact hk)]
      unfold cClaim nt
      rw [mrg_c (by decide), mrg_c (by decide), mrg_c (by decide), mrg_m (by decide), a25 k hk]
    · rw [cwn_10 hk, cwn_10 (by rw [n24]; exact hk)]
  · by_cases hk : k < 4
    · have : k = 0 ∨ k = 1 ∨ k = 2 ∨ k = 3 := by omega
      rcases this with rfl | rfl | rfl | rfl
      · have e : cGas (mrg x y) = cGas x := by
          funext t
          unfold cGas
          by_cases ht : t < 2
          · rw [if_pos ht, if_pos ht, eL _ (by omega) (by omega)]
          · rw [if_neg ht, if_neg ht]
        rw [cw_11a, cw_11a, e]
      · have e : cCame (mrg x y) = cCame x := by
          funext t
          unfold cCame
          by_cases ht : t < 3
          · rw [if_pos ht, if_pos ht, eL _ (by omega) (by omega)]
          · rw [if_neg ht, if_neg ht]
        rw [cw_11b, cw_11b, e]
      · rw [cw_11c, cw_11c, mrg_cf (by decide)]
      · rw [cw_11d, cw_11d, mrg_cf (by decide)]
    · rw [cwn_11 hk, cwn_11 hk]
theorem mw_mrg {g : GG} {ad : Nat → Nat → Nat} {x y : St} : ∀ j k, mwM g ad (mrg x y) j k = mwM g ad y j k := by
  intro j k
  have e : mF ad (mrg x y) = mF ad y := rfl
  have e2 : ∀ f, mArr f = true → (mrg x y).1 f = y.1 f := by
    intro f hf
    refine mrg_mf ?_
    unfold mArr at hf
    simp only [Bool.or_eq_true, Bool.and_eq_true, decide_eq_true_eq, beq_iff_eq] at hf
    omega
  unfold mwM
  rw [e]
  by_cases h1 : j = 30
  · rw [if_pos h1, if_pos h1]
  · rw [if_neg h1, if_neg h1]
    by_cases h2 : j = 31
    · rw [if_pos h2, if_pos h2]
      by_cases h3 : mArr k = true
      · rw [if_pos h3, if_pos h3, e2 k h3]
      · rw [if_neg h3, if_neg h3]
    · rw [if_neg h2, if_neg h2]
