/-! the lists in the class's memory: what is added; objects just made -/
set_option maxRecDepth 100000
def adP (ad : Nat → Nat → Nat) (k n q : Nat) : Nat → Nat → Nat := fun j i => if j = k ∧ i = n then q else ad j i
theorem adP_o {ad : Nat → Nat → Nat} {k n q j i : Nat} (h : ¬ (j = k ∧ i = n)) : adP ad k n q j i = ad j i := if_neg h
theorem adP_s (ad : Nat → Nat → Nat) (k n q : Nat) : adP ad k n q k n = q := if_pos ⟨rfl, rfl⟩
/-- the room of a list behind an add -/
def capN (x : St) (i : Nat) : Nat := if nt x 54 i = 0 then 10 else if cN x i < nt x 54 i then nt x 54 i else nt x 54 i + nt x 54 i / 2
def clOK (x : St) : Prop := ∀ n, n < nt x 24 0 → nt x 40 n < nt x 13 0
def adS0 (x : St) : St := sI (sI (sI x 13 0 (nI (nt x 13 0 + 1))) 53 0 (x.1 53 0 + 1)) 54 0 (nI (capN x 0))
def adS1 (x : St) : St := sI (sI (sI x 19 0 (nI (nt x 19 0 + 1))) 53 1 (x.1 53 1 + 1)) 54 1 (nI (capN x 1))
def adS2 (x : St) : St := sI (sI (sI x 24 0 (nI (nt x 24 0 + 1))) 53 2 (x.1 53 2 + 1)) 54 2 (nI (capN x 2))
theorem liM_base {g : GG} {B B' : MM} {i a : Nat} {md : Int32} {el cn cap : Nat} {f : Nat → Option Nat} {j k : Nat} (h : B j k = B' j k) : liM g B i a md el cn cap f j k = liM g B' i a md el cn cap f j k := by
  unfold liM liL mUp
  rw [h]
theorem mUp_sw {M : MM} {a b c d : Nat} {p q : Nat × va_E} (h : ¬ (a = c ∧ b = d)) (j k : Nat) : mUp (mUp M c d q) a b p j k = mUp (mUp M a b p) c d q j k := by
  unfold mUp
  by_cases c1 : j = a ∧ k = b
  · have c2 : ¬ (j = c ∧ k = d) := by omega
    rw [if_pos c1, if_neg c2, if_pos c1]
  · rw [if_neg c1, if_neg c1]
section CN9
variable {g : GG} {ad : Nat → Nat → Nat} {Mx : MM} {x : St} {i : Nat}
theorem cwn_0 (h : i ≠ 0) : cwM g ad Mx x 0 i = none := by simp [cwM, h]
theorem cwn_1 (h : i ≠ 0) : cwM g ad Mx x 1 i = none := by simp [cwM, h]
theorem cwn_2 (h : ¬ i < 25) : cwM g ad Mx x 2 i = none := by simp [cwM, h]
theorem cwn_3 (h : ¬ i < 25) : cwM g ad Mx x 3 i = none := by simp [cwM, h]
theorem cwn_4 (h : ¬ i < 125) : cwM g ad Mx x 4 i = none := by simp [cwM, h]
theorem cwn_5 (h : ¬ i < 3) : cwM g ad Mx x 5 i = none := by simp [cwM, h]
theorem cwn_6 (h : ¬ (i < 3 ∧ nt x 54 i ≠ 0)) : cwM g ad Mx x 6 i = none := by
  unfold cwM
  simp only [Nat.reduceEqDiff, if_false]
  exact if_neg h
theorem cwn_7 (h : ¬ i < nt x 13 0) : cwM g ad Mx x 7 i = none := by simp [cwM, h]
theorem cwn_8 (h : ¬ i < nt x 19 0) : cwM g ad Mx x 8 i = none := by simp [cwM, h]
theorem cwn_9 (h : ¬ i < nt x 19 0) : cwM g ad Mx x 9 i = none := by simp [cwM, h]
theorem cwn_10 (h : ¬ i < nt x 24 0) : cwM g ad Mx x 10 i = none := by simp [cwM, h]
theorem cwn_11 (h : ¬ i < 4) : cwM g ad Mx x 11 i = none := by
  have h0 : i ≠ 0 := by omega
  have h1 : i ≠ 1 := by omega
  have h2 : i ≠ 2 := by omega
  have h3 : i ≠ 3 := by omega
  simp [cwM, h0, h1, h2, h3]
end CN9
theorem cElm_P {ad : Nat → Nat → Nat} {a0 b0 q i j : Nat} (hi : i < 3) (h7 : a0 = 7 → i = 0 → j ≠ b0) (h8 : a0 = 8 → i = 1 → j ≠ b0) (h10 : a0 = 10 → i = 2 → j ≠ b0) : cElm (adP ad a0 b0 q) i j = cElm ad i j := by
  have : i = 0 ∨ i = 1 ∨ i = 2 := by omega
  rcases this with rfl | rfl | rfl
  · exact adP_o (fun z => h7 z.1.symm rfl z.2)
  · exact adP_o (fun z => h8 z.1.symm rfl z.2)
  · exact adP_o (fun z => h10 z.1.symm rfl z.2)
theorem cnt_n (x : St) : (cCnt x 0).toNatClampNeg = nt x 13 0 ∧ (cCnt x 1).toNatClampNeg = nt x 19 0 ∧ (cCnt x 2).toNatClampNeg = nt x 24 0 := ⟨rfl, rfl, rfl⟩
/-- an address is changed that nothing leans on -/
theorem cw_adP {g : GG} {ad : Nat → Nat → Nat} {Mx : MM} {x : St} {a0 b0 q j k : Nat} (h6 : 6 ≤ a0) (h10 : a0 ≤ 10) (hj : ¬ (j = a0 ∧ k = b0)) (h5 : a0 = 6 → j = 5 → k ≠ b0) (hh : a0 = 7 → nt x 13 0 ≤ b0 ∧ hoOK x ∧ clOK x) (h8 : a0 = 8 ∨ a0 = 9 → nt x 19 0 ≤ b0) (h1 : a0 = 10 → nt x 24 0 ≤ b0) : cwM g (adP ad a0 b0 q) Mx x j k = cwM g ad Mx x j k := by
  by_cases hj11 : 11 < j
  · rw [cw_ext hj11, cw_ext hj11]
  have h12j : j = 0 ∨ j = 1 ∨ j = 2 ∨ j = 3 ∨ j = 4 ∨ j = 5 ∨ j = 6 ∨ j = 7 ∨ j = 8 ∨ j = 9 ∨ j = 10 ∨ j = 11 := by omega
  rcases h12j with rfl | rfl | rfl | rfl | rfl | rfl | rfl | rfl | rfl | rfl | rfl | rfl
  · by_cases hk : k = 0
    · subst hk
      rw [cw_0, cw_0, adP_o (by omega)]
      unfold cMain
      rw [adP_o (by omega), adP_o (by omega), adP_o (by omega), adP_o (by omega), adP_o (by omega), adP_o (by omega), adP_o (by omega), adP_o (by omega)]
    · rw [cwn_0 hk, cwn_0 hk]
  · by_cases hk : k = 0
    · subst hk
      have e : (fun c => some (adP ad a0 b0 q 2 c)) = (fun c => some (ad 2 c)) := funext (fun c => by rw [adP_o (by omega)])
      rw [cw_1, cw_1, adP_o (by omega), e]
    · rw [cwn_1 hk, cwn_1 hk]
  · by_cases hk : k < 25
    · have e : cHou (adP ad a0 b0 q) x k = cHou ad x k := by
        unfold cHou
        by_cases h9 : x.1 52 k = (-1)
        · rw [if_pos h9, if_pos h9]
        · rw [if_neg h9, if_neg h9, adP_o]
          intro z
          obtain ⟨z1, z2, -⟩ := hh z.1.symm
          have := z2 k hk h9
          omega
      rw [cw_2 hk, cw_2 hk, adP_o (by omega)]
      unfold cCell
      rw [e, adP_o (by omega), adP_o (by omega)]
    · rw [cwn_2 hk, cwn_2 hk]
  · by_cases hk : k < 25
    · have e : (fun l => some (adP ad a0 b0 q 4 (5 * k + l))) = (fun l => some (ad 4 (5 * k + l))) := funext (fun c => by rw [adP_o (by omega)])
      rw [cw_3 hk, cw_3 hk, adP_o (by omega), e]
    · rw [cwn_3 hk, cwn_3 hk]
  · by_cases hk : k < 125
    · rw [cw_4 hk, cw_4 hk, adP_o (by omega)]
    · rw [cwn_4 hk, cwn_4 hk]
  · by_cases hk : k < 3
    · have e : cEl g (adP ad a0 b0 q) x k = cEl g ad x k := by
        unfold cEl
        rw [adP_o (fun z => h5 z.1.symm rfl z.2)]
      rw [cw_5 hk, cw_5 hk, adP_o (by omega)]
      unfold cList
      rw [e]
    · rw [cwn_5 hk, cwn_5 hk]
  · by_cases hk : k < 3 ∧ nt x 54 k ≠ 0
    · have e : cArr (adP ad a0 b0 q) x k = cArr ad x k := by
        funext j
        unfold cArr
        by_cases h9 : j < (cCnt x k).toNatClampNeg
        · obtain ⟨n0, n1, n2⟩ := cnt_n x
          rw [if_pos h9, if_pos h9, cElm_P hk.1]
          · rintro z rfl
            have := (hh z).1
            omega
          · rintro z rfl
            have := h8 (Or.inl z)
            omega
          · rintro z rfl
            have := h1 z
            omega
        · rw [if_neg h9, if_neg h9]
      rw [cw_6 hk.1 hk.2, cw_6 hk.1 hk.2, adP_o (fun z => hj ⟨z.1, z.2⟩), e]
    · rw [cwn_6 hk, cwn_6 hk]
  · by_cases hk : k < nt x 13 0
    · rw [cw_7 hk, cw_7 hk, adP_o (fun z => hj z)]
      unfold cHouse
      rw [adP_o (by omega)]
    · rw [cwn_7 hk, cwn_7 hk]
  · by_cases hk : k < nt x 19 0
    · rw [cw_8 hk, cw_8 hk, adP_o (fun z => hj z)]
      unfold cHole
      rw [adP_o (by omega), adP_o (fun z => by have := h8 (Or.inr z.1.symm); omega)]
    · rw [cwn_8 hk, cwn_8 hk]
  · by_cases hk : k < nt x 19 0
    · rw [cw_9 hk, cw_9 hk, adP_o (fun z => hj z)]
    · rw [cwn_9 hk, cwn_9 hk]
  · by_cases hk : k < nt x 24 0
    · rw [cw_10 hk, cw_10 hk, adP_o (fun z => hj z)]
      unfold cClaim
      rw [adP_o (fun z => by obtain ⟨z1, -, z2⟩ := hh z.1.symm; have := z2 k hk; omega)]
    · rw [cwn_10 hk, cwn_10 hk]
  · by_cases hk : k < 4
    · have : k = 0 ∨ k = 1 ∨ k = 2 ∨ k = 3 := by omega
      rcases this with rfl | rfl | rfl | rfl
      · rw [cw_11a, cw_11a, adP_o (by omega)]
      · rw [cw_11b, cw_11b, adP_o (by omega)]
      · rw [cw_11c, cw_11c, adP_o (by omega)]
      · rw [cw_11d, cw_11d, adP_o (by omega)]
    · rw [cwn_11 hk, cwn_11 hk]
theorem adS0_o (x : St) (f k : Nat) (hf : f ≠ 13) (h3 : f ≠ 53) (h4 : f ≠ 54) : (adS0 x).1 f k = x.1 f k := by
  unfold adS0
  rw [sI_o (fun z => h4 z.1), sI_o (fun z => h3 z.1), sI_o (fun z => hf z.1)]
theorem adS0_n (x : St) (f k : Nat) (hf : f ≠ 13) (h3 : f ≠ 53) (h4 : f ≠ 54) : nt (adS0 x) f k = nt x f k := by unfold nt; rw [adS0_o x f k hf h3 h4]
theorem adS0_c (x : St) (hn : nt x 13 0 < 50) : nt (adS0 x) 13 0 = nt x 13 0 + 1 := by
  have e : (adS0 x).1 13 0 = nI (nt x 13 0 + 1) := by
    unfold adS0
    rw [sI_o (fun z => absurd z.1 (by decide)), sI_o (fun z => absurd z.1 (by decide)), sI_1, if_pos ⟨rfl, rfl⟩]
  unfold nt at *
  rw [e, nI_clamp (by omega)]
theorem adS0_53 (x : St) (k : Nat) : (adS0 x).1 53 k = if k = 0 then x.1 53 0 + 1 else x.1 53 k := by
  unfold adS0
  rw [sI_o (fun z => absurd z.1 (by decide)), sI_1]
  by_cases h : k = 0
  · rw [if_pos ⟨rfl, h⟩, if_pos h]
  · rw [if_neg (fun z => h z.2), if_neg h, sI_o (fun z => absurd z.1 (by decide))]
theorem adS0_54 (x : St) (k : Nat) : (adS0 x).1 54 k = if k = 0 then nI (capN x 0) else x.1 54 k := by
  unfold adS0
  rw [sI_1]
  by_cases h : k = 0
  · rw [if_pos ⟨rfl, h⟩, if_pos h]
  · rw [if_neg (fun z => h z.2), if_neg h, sI_o (fun z => absurd z.1 (by decide)), sI_o (fun z => absurd z.1 (by decide))]
theorem cCnt0_o (x : St) (hn : nt x 13 0 < 50) : cCnt (adS0 x) 0 = nI (nt x 13 0 + 1) ∧ ∀ k, k ≠ 0 → k < 3 → cCnt (adS0 x) k = cCnt x k := by
  constructor
  · show (adS0 x).1 13 0 = _
    unfold adS0
    rw [sI_o (fun z => absurd z.1 (by decide)), sI_o (fun z => absurd z.1 (by decide)), sI_1, if_pos ⟨rfl, rfl⟩]
  · intro k hk h3
    have : k = 1 ∨ k = 2 := by omega
    rcases this with rfl | rfl
    · exact adS0_o x 19 0 (by decide) (by decide) (by decide)
    · exact adS0_o x 24 0 (by decide) (by decide) (by decide)
/-- one more is counted: nothing else changes -/
theorem cw_adS0 {g : GG} {ad : Nat → Nat → Nat} {Mx : MM} {x : St} {j k : Nat} (hn : nt x 13 0 < 50) (h1 : ¬ (j = 7 ∧ k = nt x 13 0)) (h2 : ¬ (j = 6 ∧ k = 0)) (h3 : ¬ (j = 5 ∧ k = 0)) : cwM g ad Mx (adS0 x) j k = cwM g ad Mx x j k := by
  have ho := adS0_o x
  have hN := adS0_n x
  have hC := adS0_c x hn
  by_cases hj : 4 < j ∧ j < 11
  · have h12j : j = 5 ∨ j = 6 ∨ j = 7 ∨ j = 8 ∨ j = 9 ∨ j = 10 := by omega
    rcases h12j with rfl | rfl | rfl | rfl | rfl | rfl
    · by_cases hk : k < 3
      · have hk2 : k ≠ 0 := fun z => h3 ⟨rfl, z⟩
        have e : nt (adS0 x) 54 k = nt x 54 k := by unfold nt; rw [adS0_54, if_neg hk2]
        rw [cw_5 hk, cw_5 hk]
        unfold cList cEl
        rw [e, adS0_53, if_neg hk2, (cCnt0_o x hn).2 k hk2 hk]
      · rw [cwn_5 hk, cwn_5 hk]
    · have hk2 : k < 3 → k ≠ 0 := fun _ z => h2 ⟨rfl, z⟩
      by_cases hk : k < 3
      · have e : nt (adS0 x) 54 k = nt x 54 k := by unfold nt; rw [adS0_54, if_neg (hk2 hk)]
        have e2 : cArr ad (adS0 x) k = cArr ad x k := by unfold cArr; rw [(cCnt0_o x hn).2 k (hk2 hk) hk]
        by_cases h0 : nt x 54 k ≠ 0
        · rw [cw_6 hk h0, cw_6 hk (by rw [e]; exact h0), e, e2]
        · rw [cwn_6 (fun z => h0 z.2), cwn_6 (fun z => h0 (by rw [← e]; exact z.2))]
      · rw [cwn_6 (fun z => hk z.1), cwn_6 (fun z => hk z.1)]
    · have hk9 : k ≠ nt x 13 0 := fun z => h1 ⟨rfl, z⟩
      by_cases hk : k < nt x 13 0
      · rw [cw_7 hk, cw_7 (by omega)]
        unfold cHouse nt
        rw [ho 14 k (by decide) (by decide) (by decide), ho 15 k (by decide) (by decide) (by decide), ho 16 k (by decide) (by decide) (by decide), ho 18 k (by decide) (by decide) (by decide), ho 17 k (by decide) (by decide) (by decide)]
      · rw [cwn_7 hk, cwn_7 (by omega)]
    · by_cases hk : k < nt x 19 0
      · rw [cw_8 hk, cw_8 (by rw [hN 19 0 (by decide) (by decide) (by decide)]; exact hk)]
        unfold cHole nt
        rw [ho 20 k (by decide) (by decide) (by decide), ho 21 k (by decide) (by decide) (by decide), ho 22 k (by decide) (by decide) (by decide)]
      · rw [cwn_8 hk, cwn_8 (by rw [hN 19 0 (by decide) (by decide) (by decide)]; exact hk)]
    · by_cases hk : k < nt x 19 0
      · rw [cw_9 hk, cw_9 (by rw [hN 19 0 (by decide) (by decide) (by decide)]; exact hk)]
        unfold cRead
        rw [show (adS0 x).1 23 = x.1 23 from funext (fun k => ho 23 k (by decide) (by decide) (by decide))]
      · rw [cwn_9 hk, cwn_9 (by rw [hN 19 0 (by decide) (by decide) (by decide)]; exact hk)]
    · by_cases hk : k < nt x 24 0
      · rw [cw_10 hk, cw_10 (by rw [hN 24 0 (by decide) (by decide) (by decide)]; exact hk)]
        unfold cClaim nt
        rw [ho 40 k (by decide) (by decide) (by decide), ho 41 k (by decide) (by decide) (by decide), ho 42 k (by decide) (by decide) (by decide), ho 25 k (by decide) (by decide) (by decide)]
      · rw [cwn_10 hk, cwn_10 (by rw [hN 24 0 (by decide) (by decide) (by decide)]; exact hk)]
  · exact cwM_congr ⟨fun _ _ => ⟨rfl, ho 1 _ (by decide) (by decide) (by decide)⟩, fun _ => ⟨ho 2 _ (by decide) (by decide) (by decide), ho 3 _ (by decide) (by decide) (by decide), ho 4 _ (by decide) (by decide) (by decide), ho 5 _ (by decide) (by decide) (by decide), ho 6 _ (by decide) (by decide) (by decide), ho 52 _ (by decide) (by decide) (by decide)⟩, fun _ => ⟨ho 8 _ (by decide) (by decide) (by decide), ho 9 _ (by decide) (by decide) (by decide), ho 10 _ (by decide) (by decide) (by decide), ho 11 _ (by decide) (by decide) (by decide)⟩, fun e => absurd e (by omega), fun e => absurd e (by omega), fun e => absurd e (by omega), fun e => absurd e (by omega), fun e => absurd e (by omega), fun e => absurd e (by omega), fun _ => ⟨fun _ => ⟨rfl, rfl⟩, fun _ => ⟨rfl, rfl, rfl⟩, fun _ => funext (fun k => ho 51 k (by decide) (by decide) (by decide)), fun _ => funext (fun k => ho 50 k (by decide) (by decide) (by decide))⟩⟩
theorem adS1_o (x : St) (f k : Nat) (hf : f ≠ 19) (h3 : f ≠ 53) (h4 : f ≠ 54) : (adS1 x).1 f k = x.1 f k := by
  unfold adS1
  rw [sI_o (fun z => h4 z.1), sI_o (fun z => h3 z.1), sI_o (fun z => hf z.1)]
theorem adS1_n (x : St) (f k : Nat) (hf : f ≠ 19) (h3 : f ≠ 53) (h4 : f ≠ 54) : nt (adS1 x) f k = nt x f k := by unfold nt; rw [adS1_o x f k hf h3 h4]
theorem adS1_c (x : St) (hn : nt x 19 0 < 50) : nt (adS1 x) 19 0 = nt x 19 0 + 1 := by
  have e : (adS1 x).1 19 0 = nI (nt x 19 0 + 1) := by
    unfold adS1
    rw [sI_o (fun z => absurd z.1 (by decide)), sI_o (fun z => absurd z.1 (by decide)), sI_1, if_pos ⟨rfl, rfl⟩]
  unfold nt at *
  rw [e, nI_clamp (by omega)]
theorem adS1_53 (x : St) (k : Nat) : (adS1 x).1 53 k = if k = 1 then x.1 53 1 + 1 else x.1 53 k := by
  unfold adS1
  rw [sI_o (fun z => absurd z.1 (by decide)), sI_1]
  by_cases h : k = 1
  · rw [if_pos ⟨rfl, h⟩, if_pos h]
  · rw [if_neg (fun z => h z.2), if_neg h, sI_o (fun z => absurd z.1 (by decide))]
theorem adS1_54 (x : St) (k : Nat) : (adS1 x).1 54 k = if k = 1 then nI (capN x 1) else x.1 54 k := by
  unfold adS1
  rw [sI_1]
  by_cases h : k = 1
  · rw [if_pos ⟨rfl, h⟩, if_pos h]
  · rw [if_neg (fun z => h z.2), if_neg h, sI_o (fun z => absurd z.1 (by decide)), sI_o (fun z => absurd z.1 (by decide))]
theorem cCnt1_o (x : St) (hn : nt x 19 0 < 50) : cCnt (adS1 x) 1 = nI (nt x 19 0 + 1) ∧ ∀ k, k ≠ 1 → k < 3 → cCnt (adS1 x) k = cCnt x k := by
  constructor
  · show (adS1 x).1 19 0 = _
    unfold adS1
    rw [sI_o (fun z => absurd z.1 (by decide)), sI_o (fun z => absurd z.1 (by decide)), sI_1, if_pos ⟨rfl, rfl⟩]
  · intro k hk h3
    have : k = 0 ∨ k = 2 := by omega
    rcases this with rfl | rfl
    · exact adS1_o x 13 0 (by decide) (by decide) (by decide)
    · exact adS1_o x 24 0 (by decide) (by decide) (by decide)
/-- one more is counted: nothing else changes -/
theorem cw_adS1 {g : GG} {ad : Nat → Nat → Nat} {Mx : MM} {x : St} {j k : Nat} (hn : nt x 19 0 < 50) (h1 : ¬ (j = 8 ∧ k = nt x 19 0)) (h2 : ¬ (j = 6 ∧ k = 1)) (h3 : ¬ (j = 5 ∧ k = 1)) (h4 : ¬ (j = 9 ∧ k = nt x 19 0)) : cwM g ad Mx (adS1 x) j k = cwM g ad Mx x j k := by
  have ho := adS1_o x
  have hN := adS1_n x
  have hC := adS1_c x hn
  by_cases hj : 4 < j ∧ j < 11
  · have h12j : j = 5 ∨ j = 6 ∨ j = 7 ∨ j = 8 ∨ j = 9 ∨ j = 10 := by omega
    rcases h12j with rfl | rfl | rfl | rfl | rfl | rfl
    · by_cases hk : k < 3
      · have hk2 : k ≠ 1 := fun z => h3 ⟨rfl, z⟩
        have e : nt (adS1 x) 54 k = nt x 54 k := by unfold nt; rw [adS1_54, if_neg hk2]
        rw [cw_5 hk, cw_5 hk]
        unfold cList cEl
        rw [e, adS1_53, if_neg hk2, (cCnt1_o x hn).2 k hk2 hk]
      · rw [cwn_5 hk, cwn_5 hk]
    · have hk2 : k < 3 → k ≠ 1 := fun _ z => h2 ⟨rfl, z⟩
      by_cases hk : k < 3
      · have e : nt (adS1 x) 54 k = nt x 54 k := by unfold nt; rw [adS1_54, if_neg (hk2 hk)]
        have e2 : cArr ad (adS1 x) k = cArr ad x k := by unfold cArr; rw [(cCnt1_o x hn).2 k (hk2 hk) hk]
        by_cases h0 : nt x 54 k ≠ 0
        · rw [cw_6 hk h0, cw_6 hk (by rw [e]; exact h0), e, e2]
        · rw [cwn_6 (fun z => h0 z.2), cwn_6 (fun z => h0 (by rw [← e]; exact z.2))]
      · rw [cwn_6 (fun z => hk z.1), cwn_6 (fun z => hk z.1)]
    · by_cases hk : k < nt x 13 0
      · rw [cw_7 hk, cw_7 (by rw [hN 13 0 (by decide) (by decide) (by decide)]; exact hk)]
        unfold cHouse nt
        rw [ho 14 k (by decide) (by decide) (by decide), ho 15 k (by decide) (by decide) (by decide), ho 16 k (by decide) (by decide) (by decide), ho 18 k (by decide) (by decide) (by decide), ho 17 k (by decide) (by decide) (by decide)]
      · rw [cwn_7 hk, cwn_7 (by rw [hN 13 0 (by decide) (by decide) (by decide)]; exact hk)]
    · have hk9 : k ≠ nt x 19 0 := fun z => h1 ⟨rfl, z⟩
      by_cases hk : k < nt x 19 0
      · rw [cw_8 hk, cw_8 (by omega)]
        unfold cHole nt
        rw [ho 20 k (by decide) (by decide) (by decide), ho 21 k (by decide) (by decide) (by decide), ho 22 k (by decide) (by decide) (by decide)]
      · rw [cwn_8 hk, cwn_8 (by omega)]
    · have hk9 : k ≠ nt x 19 0 := fun z => h4 ⟨rfl, z⟩
      by_cases hk : k < nt x 19 0
      · rw [cw_9 hk, cw_9 (by omega)]
        unfold cRead
        rw [show (adS1 x).1 23 = x.1 23 from funext (fun k => ho 23 k (by decide) (by decide) (by decide))]
      · rw [cwn_9 hk, cwn_9 (by omega)]
    · by_cases hk : k < nt x 24 0
      · rw [cw_10 hk, cw_10 (by rw [hN 24 0 (by decide) (by decide) (by decide)]; exact hk)]
        unfold cClaim nt
        rw [ho 40 k (by decide) (by decide) (by decide), ho 41 k (by decide) (by decide) (by decide), ho 42 k (by decide) (by decide) (by decide), ho 25 k (by decide) (by decide) (by decide)]
      · rw [cwn_10 hk, cwn_10 (by rw [hN 24 0 (by decide) (by decide) (by decide)]; exact hk)]
  · exact cwM_congr ⟨fun _ _ => ⟨rfl, ho 1 _ (by decide) (by decide) (by decide)⟩, fun _ => ⟨ho 2 _ (by decide) (by decide) (by decide), ho 3 _ (by decide) (by decide) (by decide), ho 4 _ (by decide) (by decide) (by decide), ho 5 _ (by decide) (by decide) (by decide), ho 6 _ (by decide) (by decide) (by decide), ho 52 _ (by decide) (by decide) (by decide)⟩, fun _ => ⟨ho 8 _ (by decide) (by decide) (by decide), ho 9 _ (by decide) (by decide) (by decide), ho 10 _ (by decide) (by decide) (by decide), ho 11 _ (by decide) (by decide) (by decide)⟩, fun e => absurd e (by omega), fun e => absurd e (by omega), fun e => absurd e (by omega), fun e => absurd e (by omega), fun e => absurd e (by omega), fun e => absurd e (by omega), fun _ => ⟨fun _ => ⟨rfl, rfl⟩, fun _ => ⟨rfl, rfl, rfl⟩, fun _ => funext (fun k => ho 51 k (by decide) (by decide) (by decide)), fun _ => funext (fun k => ho 50 k (by decide) (by decide) (by decide))⟩⟩
theorem adS2_o (x : St) (f k : Nat) (hf : f ≠ 24) (h3 : f ≠ 53) (h4 : f ≠ 54) : (adS2 x).1 f k = x.1 f k := by
  unfold adS2
  rw [sI_o (fun z => h4 z.1), sI_o (fun z => h3 z.1), sI_o (fun z => hf z.1)]
theorem adS2_n (x : St) (f k : Nat) (hf : f ≠ 24) (h3 : f ≠ 53) (h4 : f ≠ 54) : nt (adS2 x) f k = nt x f k := by unfold nt; rw [adS2_o x f k hf h3 h4]
theorem adS2_c (x : St) (hn : nt x 24 0 < 50) : nt (adS2 x) 24 0 = nt x 24 0 + 1 := by
  have e : (adS2 x).1 24 0 = nI (nt x 24 0 + 1) := by
    unfold adS2
    rw [sI_o (fun z => absurd z.1 (by decide)), sI_o (fun z => absurd z.1 (by decide)), sI_1, if_pos ⟨rfl, rfl⟩]
  unfold nt at *
  rw [e, nI_clamp (by omega)]
theorem adS2_53 (x : St) (k : Nat) : (adS2 x).1 53 k = if k = 2 then x.1 53 2 + 1 else x.1 53 k := by
  unfold adS2
  rw [sI_o (fun z => absurd z.1 (by decide)), sI_1]
  by_cases h : k = 2
  · rw [if_pos ⟨rfl, h⟩, if_pos h]
  · rw [if_neg (fun z => h z.2), if_neg h, sI_o (fun z => absurd z.1 (by decide))]
theorem adS2_54 (x : St) (k : Nat) : (adS2 x).1 54 k = if k = 2 then nI (capN x 2) else x.1 54 k := by
  unfold adS2
  rw [sI_1]
  by_cases h : k = 2
  · rw [if_pos ⟨rfl, h⟩, if_pos h]
  · rw [if_neg (fun z => h z.2), if_neg h, sI_o (fun z => absurd z.1 (by decide)), sI_o (fun z => absurd z.1 (by decide))]
theorem cCnt2_o (x : St) (hn : nt x 24 0 < 50) : cCnt (adS2 x) 2 = nI (nt x 24 0 + 1) ∧ ∀ k, k ≠ 2 → k < 3 → cCnt (adS2 x) k = cCnt x k := by
  constructor
  · show (adS2 x).1 24 0 = _
    unfold adS2
    rw [sI_o (fun z => absurd z.1 (by decide)), sI_o (fun z => absurd z.1 (by decide)), sI_1, if_pos ⟨rfl, rfl⟩]
  · intro k hk h3
    have : k = 0 ∨ k = 1 := by omega
    rcases this with rfl | rfl
    · exact adS2_o x 13 0 (by decide) (by decide) (by decide)
    · exact adS2_o x 19 0 (by decide) (by decide) (by decide)
/-- one more is counted: nothing else changes -/
theorem cw_adS2 {g : GG} {ad : Nat → Nat → Nat} {Mx : MM} {x : St} {j k : Nat} (hn : nt x 24 0 < 50) (h1 : ¬ (j = 10 ∧ k = nt x 24 0)) (h2 : ¬ (j = 6 ∧ k = 2)) (h3 : ¬ (j = 5 ∧ k = 2)) : cwM g ad Mx (adS2 x) j k = cwM g ad Mx x j k := by
  have ho := adS2_o x
  have hN := adS2_n x
  have hC := adS2_c x hn
  by_cases hj : 4 < j ∧ j < 11
  · have h12j : j = 5 ∨ j = 6 ∨ j = 7 ∨ j = 8 ∨ j = 9 ∨ j = 10 := by omega
    rcases h12j with rfl | rfl | rfl | rfl | rfl | rfl
    · by_cases hk : k < 3
      · have hk2 : k ≠ 2 := fun z => h3 ⟨rfl, z⟩
        have e : nt (adS2 x) 54 k = nt x 54 k := by unfold nt; rw [adS2_54, if_neg hk2]
        rw [cw_5 hk, cw_5 hk]
        unfold cList cEl
        rw [e, adS2_53, if_neg hk2, (cCnt2_o x hn).2 k hk2 hk]
      · rw [cwn_5 hk, cwn_5 hk]
    · have hk2 : k < 3 → k ≠ 2 := fun _ z => h2 ⟨rfl, z⟩
      by_cases hk : k < 3
      · have e : nt (adS2 x) 54 k = nt x 54 k := by unfold nt; rw [adS2_54, if_neg (hk2 hk)]
        have e2 : cArr ad (adS2 x) k = cArr ad x k := by unfold cArr; rw [(cCnt2_o x hn).2 k (hk2 hk) hk]
        by_cases h0 : nt x 54 k ≠ 0
        · rw [cw_6 hk h0, cw_6 hk (by rw [e]; exact h0), e, e2]
        · rw [cwn_6 (fun z => h0 z.2), cwn_6 (fun z => h0 (by rw [← e]; exact z.2))]
      · rw [cwn_6 (fun z => hk z.1), cwn_6 (fun z => hk z.1)]
    · by_cases hk : k < nt x 13 0
      · rw [cw_7 hk, cw_7 (by rw [hN 13 0 (by decide) (by decide) (by decide)]; exact hk)]
        unfold cHouse nt
        rw [ho 14 k (by decide) (by decide) (by decide), ho 15 k (by decide) (by decide) (by decide), ho 16 k (by decide) (by decide) (by decide), ho 18 k (by decide) (by decide) (by decide), ho 17 k (by decide) (by decide) (by decide)]
      · rw [cwn_7 hk, cwn_7 (by rw [hN 13 0 (by decide) (by decide) (by decide)]; exact hk)]
    · by_cases hk : k < nt x 19 0
      · rw [cw_8 hk, cw_8 (by rw [hN 19 0 (by decide) (by decide) (by decide)]; exact hk)]
        unfold cHole nt
        rw [ho 20 k (by decide) (by decide) (by decide), ho 21 k (by decide) (by decide) (by decide), ho 22 k (by decide) (by decide) (by decide)]
      · rw [cwn_8 hk, cwn_8 (by rw [hN 19 0 (by decide) (by decide) (by decide)]; exact hk)]
    · by_cases hk : k < nt x 19 0
      · rw [cw_9 hk, cw_9 (by rw [hN 19 0 (by decide) (by decide) (by decide)]; exact hk)]
        unfold cRead
        rw [show (adS2 x).1 23 = x.1 23 from funext (fun k => ho 23 k (by decide) (by decide) (by decide))]
      · rw [cwn_9 hk, cwn_9 (by rw [hN 19 0 (by decide) (by decide) (by decide)]; exact hk)]
    · have hk9 : k ≠ nt x 24 0 := fun z => h1 ⟨rfl, z⟩
      by_cases hk : k < nt x 24 0
      · rw [cw_10 hk, cw_10 (by omega)]
        unfold cClaim nt
        rw [ho 40 k (by decide) (by decide) (by decide), ho 41 k (by decide) (by decide) (by decide), ho 42 k (by decide) (by decide) (by decide), ho 25 k (by decide) (by decide) (by decide)]
      · rw [cwn_10 hk, cwn_10 (by omega)]
  · exact cwM_congr ⟨fun _ _ => ⟨rfl, ho 1 _ (by decide) (by decide) (by decide)⟩, fun _ => ⟨ho 2 _ (by decide) (by decide) (by decide), ho 3 _ (by decide) (by decide) (by decide), ho 4 _ (by decide) (by decide) (by decide), ho 5 _ (by decide) (by decide) (by decide), ho 6 _ (by decide) (by decide) (by decide), ho 52 _ (by decide) (by decide) (by decide)⟩, fun _ => ⟨ho 8 _ (by decide) (by decide) (by decide), ho 9 _ (by decide) (by decide) (by decide), ho 10 _ (by decide) (by decide) (by decide), ho 11 _ (by decide) (by decide) (by decide)⟩, fun e => absurd e (by omega), fun e => absurd e (by omega), fun e => absurd e (by omega), fun e => absurd e (by omega), fun e => absurd e (by omega), fun e => absurd e (by omega), fun _ => ⟨fun _ => ⟨rfl, rfl⟩, fun _ => ⟨rfl, rfl, rfl⟩, fun _ => funext (fun k => ho 51 k (by decide) (by decide) (by decide)), fun _ => funext (fun k => ho 50 k (by decide) (by decide) (by decide))⟩⟩
