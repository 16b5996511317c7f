/-! THE CLASS'S MEMORY over the same state: kinds 0 the land's object, 1 land, 2 cells, 3 their layers' arrays, 4 layers, 5 lists, 6 their arrays, 7 houses, 8 boreholes, 9 readings, 10 claims, 11 gases, came, isSeen, piled. The class's own ints: 40 a claim's house, 41 its tilt, 42 filed, 50 piled, 51 isSeen, 52 a cell's house or -1, 53 modCount, 54 a list's room -/
set_option maxRecDepth 100000
def cMain (ad : Nat → Nat → Nat) (x : St) : List Value := [.ref (ad 1 0), .ref (ad 5 0), .ref (ad 5 1), .ref (ad 5 2), .ref (ad 11 0), .ref (ad 11 1), .long (x.2 29), .int (x.1 1 0), .ref (ad 11 2), .ref (ad 11 3)]
def cHou (ad : Nat → Nat → Nat) (x : St) (c : Nat) : Option Nat := if x.1 52 c = (-1) then none else some (ad 7 (nt x 52 c))
def cCell (ad : Nat → Nat → Nat) (x : St) (c : Nat) : List Value := [.int (nI c), .ref (ad 3 c), .int (x.1 2 c), .int (x.1 3 c), .int (x.1 4 c), .int (x.1 5 c), .int (x.1 6 c), va_rf (cHou ad x c), .ref (ad 0 0)]
def cLay (x : St) (k : Nat) : List Value := [.int (x.1 8 k), .int (x.1 9 k), .int (x.1 10 k), .int (x.1 11 k)]
/-- how many a list has -/
def cCnt (x : St) (i : Nat) : Int32 := if i = 0 then x.1 13 0 else if i = 1 then x.1 19 0 else x.1 24 0
def cElm (ad : Nat → Nat → Nat) (i : Nat) : Nat → Nat := if i = 0 then ad 7 else if i = 1 then ad 8 else ad 10
def cEl (g : GG) (ad : Nat → Nat → Nat) (x : St) (i : Nat) : Nat := if nt x 54 i = 0 then g.2.2.2 3 else ad 6 i
def cList (g : GG) (ad : Nat → Nat → Nat) (x : St) (i : Nat) : List Value := [.int (x.1 53 i), .ref (cEl g ad x i), .int (cCnt x i)]
def cArr (ad : Nat → Nat → Nat) (x : St) (i : Nat) : Nat → Option Nat := fun j => if j < (cCnt x i).toNatClampNeg then some (cElm ad i j) else none
def cHouse (ad : Nat → Nat → Nat) (x : St) (h : Nat) : List Value := [.ref (ad 2 (nt x 14 h)), .int (x.1 15 h), .int (x.1 16 h), .int (x.1 18 h), .int (x.1 17 h)]
def cHole (ad : Nat → Nat → Nat) (x : St) (b : Nat) : List Value := [.ref (ad 2 (nt x 20 b)), .int (x.1 21 b), .int (x.1 22 b), .ref (ad 9 b)]
def cRead (x : St) (b : Nat) : Nat → Int32 := fun j => if j < 3000 then x.1 23 (3000 * b + j) else 0
def cClaim (ad : Nat → Nat → Nat) (x : St) (n : Nat) : List Value := [.ref (ad 7 (nt x 40 n)), .int (x.1 41 n), .int (x.1 42 n), .int (x.1 25 n)]
def cGas (x : St) : Nat → Int64 := fun j => if j < 2 then x.2 (30 + j) else 0
def cCame (x : St) : Nat → Int64 := fun j => if j < 3 then x.2 (26 + j) else 0
def cwM (g : GG) (ad : Nat → Nat → Nat) (Mx : MM) (x : St) : MM := fun j i =>
  if j = 0 then (if i = 0 then some (ad 0 0, .inr (0, cMain ad x)) else none)
  else if j = 1 then (if i = 0 then some (ad 1 0, .inl (g.2.1 3, 25, .inr (.inr (.inr (.inr (fun c => some (ad 2 c))))))) else none)
  else if j = 2 then (if i < 25 then some (ad 2 i, .inr (2, cCell ad x i)) else none)
  else if j = 3 then (if i < 25 then some (ad 3 i, .inl (g.2.1 4, 5, .inr (.inr (.inr (.inr (fun l => some (ad 4 (5 * i + l)))))))) else none)
  else if j = 4 then (if i < 125 then some (ad 4 i, .inr (3, cLay x i)) else none)
  else if j = 5 then (if i < 3 then some (ad 5 i, .inr (8, cList g ad x i)) else none)
  else if j = 6 then (if i < 3 ∧ nt x 54 i ≠ 0 then some (ad 6 i, .inl (g.2.1 5, nt x 54 i, .inr (.inr (.inr (.inr (cArr ad x i)))))) else none)
  else if j = 7 then (if i < nt x 13 0 then some (ad 7 i, .inr (5, cHouse ad x i)) else none)
  else if j = 8 then (if i < nt x 19 0 then some (ad 8 i, .inr (6, cHole ad x i)) else none)
  else if j = 9 then (if i < nt x 19 0 then some (ad 9 i, .inl (g.2.1 0, 3000, .inl (cRead x i))) else none)
  else if j = 10 then (if i < nt x 24 0 then some (ad 10 i, .inr (7, cClaim ad x i)) else none)
  else if j = 11 then (if i = 0 then some (ad 11 0, .inl (g.2.1 1, 2, .inr (.inl (cGas x)))) else if i = 1 then some (ad 11 1, .inl (g.2.1 1, 3, .inr (.inl (cCame x)))) else if i = 2 then some (ad 11 2, .inl (g.2.1 2, 25, .inl (x.1 51))) else if i = 3 then some (ad 11 3, .inl (g.2.1 0, 25, .inl (x.1 50))) else none)
  else Mx j i
section CW
variable {g : GG} {ad : Nat → Nat → Nat} {Mx : MM} {x y : St}
theorem cw_0 : cwM g ad Mx x 0 0 = some (ad 0 0, .inr (0, cMain ad x)) := rfl
theorem cw_1 : cwM g ad Mx x 1 0 = some (ad 1 0, .inl (g.2.1 3, 25, .inr (.inr (.inr (.inr (fun c => some (ad 2 c))))))) := rfl
theorem cw_2 {i : Nat} (h : i < 25) : cwM g ad Mx x 2 i = some (ad 2 i, .inr (2, cCell ad x i)) := by simp [cwM, h]
theorem cw_3 {i : Nat} (h : i < 25) : cwM g ad Mx x 3 i = some (ad 3 i, .inl (g.2.1 4, 5, .inr (.inr (.inr (.inr (fun l => some (ad 4 (5 * i + l)))))))) := by simp [cwM, h]
theorem cw_4 {i : Nat} (h : i < 125) : cwM g ad Mx x 4 i = some (ad 4 i, .inr (3, cLay x i)) := by simp [cwM, h]
theorem cw_5 {i : Nat} (h : i < 3) : cwM g ad Mx x 5 i = some (ad 5 i, .inr (8, cList g ad x i)) := by simp [cwM, h]
theorem cw_6 {i : Nat} (h : i < 3) (h2 : nt x 54 i ≠ 0) : cwM g ad Mx x 6 i = some (ad 6 i, .inl (g.2.1 5, nt x 54 i, .inr (.inr (.inr (.inr (cArr ad x i)))))) := by simp [cwM, h, h2]
theorem cw_7 {i : Nat} (h : i < nt x 13 0) : cwM g ad Mx x 7 i = some (ad 7 i, .inr (5, cHouse ad x i)) := by simp [cwM, h]
theorem cw_8 {i : Nat} (h : i < nt x 19 0) : cwM g ad Mx x 8 i = some (ad 8 i, .inr (6, cHole ad x i)) := by simp [cwM, h]
theorem cw_9 {i : Nat} (h : i < nt x 19 0) : cwM g ad Mx x 9 i = some (ad 9 i, .inl (g.2.1 0, 3000, .inl (cRead x i))) := by simp [cwM, h]
theorem cw_10 {i : Nat} (h : i < nt x 24 0) : cwM g ad Mx x 10 i = some (ad 10 i, .inr (7, cClaim ad x i)) := by simp [cwM, h]
theorem cw_11a : cwM g ad Mx x 11 0 = some (ad 11 0, .inl (g.2.1 1, 2, .inr (.inl (cGas x)))) := rfl
theorem cw_11b : cwM g ad Mx x 11 1 = some (ad 11 1, .inl (g.2.1 1, 3, .inr (.inl (cCame x)))) := rfl
theorem cw_11c : cwM g ad Mx x 11 2 = some (ad 11 2, .inl (g.2.1 2, 25, .inl (x.1 51))) := rfl
theorem cw_11d : cwM g ad Mx x 11 3 = some (ad 11 3, .inl (g.2.1 0, 25, .inl (x.1 50))) := rfl
/-- what the entry at j, i is made of is the same in y -/
def cwDep (x y : St) (j i : Nat) : Prop :=
  (j = 0 → i = 0 → y.2 29 = x.2 29 ∧ y.1 1 0 = x.1 1 0) ∧ (j = 2 → y.1 2 i = x.1 2 i ∧ y.1 3 i = x.1 3 i ∧ y.1 4 i = x.1 4 i ∧ y.1 5 i = x.1 5 i ∧ y.1 6 i = x.1 6 i ∧ y.1 52 i = x.1 52 i) ∧
  (j = 4 → y.1 8 i = x.1 8 i ∧ y.1 9 i = x.1 9 i ∧ y.1 10 i = x.1 10 i ∧ y.1 11 i = x.1 11 i) ∧ ((j = 5 ∨ j = 6) → y.1 53 i = x.1 53 i ∧ y.1 54 i = x.1 54 i) ∧ ((4 < j ∧ j < 11) → y.1 13 0 = x.1 13 0 ∧ y.1 19 0 = x.1 19 0 ∧ y.1 24 0 = x.1 24 0) ∧
  (j = 7 → y.1 14 i = x.1 14 i ∧ y.1 15 i = x.1 15 i ∧ y.1 16 i = x.1 16 i ∧ y.1 17 i = x.1 17 i ∧ y.1 18 i = x.1 18 i) ∧ (j = 8 → y.1 20 i = x.1 20 i ∧ y.1 21 i = x.1 21 i ∧ y.1 22 i = x.1 22 i) ∧
  (j = 9 → ∀ t, t < 3000 → y.1 23 (3000 * i + t) = x.1 23 (3000 * i + t)) ∧ (j = 10 → y.1 40 i = x.1 40 i ∧ y.1 41 i = x.1 41 i ∧ y.1 42 i = x.1 42 i ∧ y.1 25 i = x.1 25 i) ∧
  (j = 11 → (i = 0 → y.2 30 = x.2 30 ∧ y.2 31 = x.2 31) ∧ (i = 1 → y.2 26 = x.2 26 ∧ y.2 27 = x.2 27 ∧ y.2 28 = x.2 28) ∧ (i = 2 → y.1 51 = x.1 51) ∧ (i = 3 → y.1 50 = x.1 50))
theorem cwM_congr {j i : Nat} (h : cwDep x y j i) : cwM g ad Mx y j i = cwM g ad Mx x j i := by
  obtain ⟨h0, h2, h4, h5, hn, h7, h8, h9, h10, h11⟩ := h
  unfold cwM
  by_cases e0 : j = 0
  · rw [if_pos e0, if_pos e0]
    by_cases i0 : i = 0
    · obtain ⟨a, b⟩ := h0 e0 i0
      simp only [i0, if_true, cMain, a, b]
    · rw [if_neg i0, if_neg i0]
  rw [if_neg e0, if_neg e0]
  by_cases e1 : j = 1
  · rw [if_pos e1, if_pos e1]
  rw [if_neg e1, if_neg e1]
  by_cases e2 : j = 2
  · obtain ⟨a, b, c, d, e, f⟩ := h2 e2
    rw [if_pos e2, if_pos e2]
    have hH : cHou ad y i = cHou ad x i := by unfold cHou nt; rw [f]
    have hC : cCell ad y i = cCell ad x i := by unfold cCell; rw [a, b, c, d, e, hH]
    rw [hC]
  rw [if_neg e2, if_neg e2]
  by_cases e3 : j = 3
  · rw [if_pos e3, if_pos e3]
  rw [if_neg e3, if_neg e3]
  by_cases e4 : j = 4
  · obtain ⟨a, b, c, d⟩ := h4 e4
    rw [if_pos e4, if_pos e4]
    have hC : cLay y i = cLay x i := by unfold cLay; rw [a, b, c, d]
    rw [hC]
  rw [if_neg e4, if_neg e4]
  by_cases e5 : j = 5
  · obtain ⟨a, b⟩ := h5 (Or.inl e5)
    obtain ⟨n1, n2, n3⟩ := hn (by omega)
    rw [if_pos e5, if_pos e5]
    have hK : cCnt y i = cCnt x i := by unfold cCnt; rw [n1, n2, n3]
    have hE : cEl g ad y i = cEl g ad x i := by unfold cEl nt; rw [b]
    have hC : cList g ad y i = cList g ad x i := by unfold cList; rw [a, hK, hE]
    rw [hC]
  rw [if_neg e5, if_neg e5]
  by_cases e6 : j = 6
  · obtain ⟨a, b⟩ := h5 (Or.inr e6)
    obtain ⟨n1, n2, n3⟩ := hn (by omega)
    rw [if_pos e6, if_pos e6]
    have hK : cCnt y i = cCnt x i := by unfold cCnt; rw [n1, n2, n3]
    have hC : cArr ad y i = cArr ad x i := by unfold cArr; rw [hK]
    have hN : nt y 54 i = nt x 54 i := by show (y.1 54 i).toNatClampNeg = _; rw [b]; rfl
    rw [hC, hN]
  rw [if_neg e6, if_neg e6]
  by_cases e7 : j = 7
  · obtain ⟨n1, n2, n3⟩ := hn (by omega)
    obtain ⟨a, b, c, d, e⟩ := h7 e7
    rw [if_pos e7, if_pos e7]
    have hN : nt y 13 0 = nt x 13 0 := by show (y.1 13 0).toNatClampNeg = _; rw [n1]; rfl
    have hC : cHouse ad y i = cHouse ad x i := by unfold cHouse nt; rw [a, b, c, d, e]
    rw [hC, hN]
  rw [if_neg e7, if_neg e7]
  by_cases e8 : j = 8
  · obtain ⟨n1, n2, n3⟩ := hn (by omega)
    obtain ⟨a, b, c⟩ := h8 e8
    rw [if_pos e8, if_pos e8]
    have hN : nt y 19 0 = nt x 19 0 := by show (y.1 19 0).toNatClampNeg = _; rw [n2]; rfl
    have hC : cHole ad y i = cHole ad x i := by unfold cHole nt; rw [a, b, c]
    rw [hC, hN]
  rw [if_neg e8, if_neg e8]
  by_cases e9 : j = 9
  · obtain ⟨n1, n2, n3⟩ := hn (by omega)
    rw [if_pos e9, if_pos e9]
    have hN : nt y 19 0 = nt x 19 0 := by show (y.1 19 0).toNatClampNeg = _; rw [n2]; rfl
    have hC : cRead y i = cRead x i := by
      funext t
      unfold cRead
      by_cases ht : t < 3000
      · rw [if_pos ht, if_pos ht, h9 e9 t ht]
      · rw [if_neg ht, if_neg ht]
    rw [hC, hN]
  rw [if_neg e9, if_neg e9]
  by_cases e10 : j = 10
  · obtain ⟨n1, n2, n3⟩ := hn (by omega)
    obtain ⟨a, b, c, d⟩ := h10 e10
    rw [if_pos e10, if_pos e10]
    have hN : nt y 24 0 = nt x 24 0 := by show (y.1 24 0).toNatClampNeg = _; rw [n3]; rfl
    have hC : cClaim ad y i = cClaim ad x i := by unfold cClaim nt; rw [a, b, c, d]
    rw [hC, hN]
  rw [if_neg e10, if_neg e10]
  by_cases e11 : j = 11
  · obtain ⟨a, b, c, d⟩ := h11 e11
    rw [if_pos e11, if_pos e11]
    by_cases i0 : i = 0
    · obtain ⟨p, q⟩ := a i0
      have hG : cGas y = cGas x := by
        funext t
        unfold cGas
        by_cases ht : t < 2
        · rw [if_pos ht, if_pos ht]
          have : t = 0 ∨ t = 1 := by omega
          rcases this with rfl | rfl
          · exact p
          · exact q
        · rw [if_neg ht, if_neg ht]
      rw [if_pos i0, if_pos i0, hG]
    rw [if_neg i0, if_neg i0]
    by_cases i1 : i = 1
    · obtain ⟨p, q, r⟩ := b i1
      have hG : cCame y = cCame x := by
        funext t
        unfold cCame
        by_cases ht : t < 3
        · rw [if_pos ht, if_pos ht]
          have : t = 0 ∨ t = 1 ∨ t = 2 := by omega
          rcases this with rfl | rfl | rfl
          · exact p
          · exact q
          · exact r
        · rw [if_neg ht, if_neg ht]
      rw [if_pos i1, if_pos i1, hG]
    rw [if_neg i1, if_neg i1]
    by_cases i2 : i = 2
    · rw [if_pos i2, if_pos i2, c i2]
    rw [if_neg i2, if_neg i2]
    by_cases i3 : i = 3
    · rw [if_pos i3, if_pos i3, d i3]
    rw [if_neg i3, if_neg i3]
  rw [if_neg e11, if_neg e11]
theorem sI_o {f k h j : Nat} {v : Int32} (q : ¬ (h = f ∧ j = k)) : (sI x f k v).1 h j = x.1 h j := if_neg q
theorem cw_sI {f k : Nat} {v : Int32} {j i : Nat} (h : (j = 0 → i = 0 → ¬ (1 = f ∧ 0 = k)) ∧ (j = 2 → i = k → ¬ (2 ≤ f ∧ f ≤ 6 ∨ f = 52)) ∧ (j = 4 → i = k → ¬ (8 ≤ f ∧ f ≤ 11)) ∧ ((j = 5 ∨ j = 6) → i = k → f ≠ 53 ∧ f ≠ 54) ∧ ((4 < j ∧ j < 11) → f ≠ 13 ∧ f ≠ 19 ∧ f ≠ 24) ∧ (j = 7 → i = k → ¬ (14 ≤ f ∧ f ≤ 18)) ∧ (j = 8 → i = k → ¬ (20 ≤ f ∧ f ≤ 22)) ∧ (j = 9 → f = 23 → k < 3000 * i ∨ 3000 * i + 3000 ≤ k) ∧ (j = 10 → i = k → f ≠ 40 ∧ f ≠ 41 ∧ f ≠ 42 ∧ f ≠ 25) ∧ (j = 11 → (i = 2 → f ≠ 51) ∧ (i = 3 → f ≠ 50))) : cwM g ad Mx (sI x f k v) j i = cwM g ad Mx x j i := by
  obtain ⟨h0, h2, h4, h5, hn, h7, h8, h9, h10, h11⟩ := h
  refine cwM_congr ⟨fun e e0 => ⟨rfl, sI_o (h0 e e0)⟩, fun e => ⟨(sI_o (fun q => by obtain ⟨a9, b9⟩ := q; subst a9; exact h2 e b9 (by decide))), (sI_o (fun q => by obtain ⟨a9, b9⟩ := q; subst a9; exact h2 e b9 (by decide))), (sI_o (fun q => by obtain ⟨a9, b9⟩ := q; subst a9; exact h2 e b9 (by decide))), (sI_o (fun q => by obtain ⟨a9, b9⟩ := q; subst a9; exact h2 e b9 (by decide))), (sI_o (fun q => by obtain ⟨a9, b9⟩ := q; subst a9; exact h2 e b9 (by decide))), (sI_o (fun q => by obtain ⟨a9, b9⟩ := q; subst a9; exact h2 e b9 (by decide)))⟩, fun e => ⟨(sI_o (fun q => by obtain ⟨a9, b9⟩ := q; subst a9; exact h4 e b9 (by decide))), (sI_o (fun q => by obtain ⟨a9, b9⟩ := q; subst a9; exact h4 e b9 (by decide))), (sI_o (fun q => by obtain ⟨a9, b9⟩ := q; subst a9; exact h4 e b9 (by decide))), (sI_o (fun q => by obtain ⟨a9, b9⟩ := q; subst a9; exact h4 e b9 (by decide)))⟩, fun e => ⟨sI_o (fun q => (h5 e q.2).1 q.1.symm), sI_o (fun q => (h5 e q.2).2 q.1.symm)⟩, fun e => ⟨sI_o (fun q => (hn e).1 q.1.symm), sI_o (fun q => (hn e).2.1 q.1.symm), sI_o (fun q => (hn e).2.2 q.1.symm)⟩, fun e => ⟨(sI_o (fun q => by obtain ⟨a9, b9⟩ := q; subst a9; exact h7 e b9 (by decide))), (sI_o (fun q => by obtain ⟨a9, b9⟩ := q; subst a9; exact h7 e b9 (by decide))), (sI_o (fun q => by obtain ⟨a9, b9⟩ := q; subst a9; exact h7 e b9 (by decide))), (sI_o (fun q => by obtain ⟨a9, b9⟩ := q; subst a9; exact h7 e b9 (by decide))), (sI_o (fun q => by obtain ⟨a9, b9⟩ := q; subst a9; exact h7 e b9 (by decide)))⟩, fun e => ⟨(sI_o (fun q => by obtain ⟨a9, b9⟩ := q; subst a9; exact h8 e b9 (by decide))), (sI_o (fun q => by obtain ⟨a9, b9⟩ := q; subst a9; exact h8 e b9 (by decide))), (sI_o (fun q => by obtain ⟨a9, b9⟩ := q; subst a9; exact h8 e b9 (by decide)))⟩, fun e t ht => sI_o (fun q => ?_), fun e => ⟨sI_o (fun q => (h10 e q.2).1 q.1.symm), sI_o (fun q => (h10 e q.2).2.1 q.1.symm), sI_o (fun q => (h10 e q.2).2.2.1 q.1.symm), sI_o (fun q => (h10 e q.2).2.2.2 q.1.symm)⟩, fun e => ⟨fun _ => ⟨rfl, rfl⟩, fun _ => ⟨rfl, rfl, rfl⟩, fun e2 => sI_ne x f k v (Ne.symm ((h11 e).1 e2)), fun e2 => sI_ne x f k v (Ne.symm ((h11 e).2 e2))⟩⟩
  have h99 := h9 e q.1.symm
  have h98 := q.2
  clear h0 h2 h4 h5 hn h7 h8 h9 h10 h11
  omega
theorem cw_sL {f : Nat} {v : Int64} {j i : Nat} (h : (j = 0 → i = 0 → f ≠ 29) ∧ (j = 11 → i = 0 → f ≠ 30 ∧ f ≠ 31) ∧ (j = 11 → i = 1 → f ≠ 26 ∧ f ≠ 27 ∧ f ≠ 28)) : cwM g ad Mx (sL x f v) j i = cwM g ad Mx x j i := by
  obtain ⟨h0, h1, h2⟩ := h
  refine cwM_congr ⟨fun e e0 => ⟨if_neg (Ne.symm (h0 e e0)), rfl⟩, fun _ => ⟨rfl, rfl, rfl, rfl, rfl, rfl⟩, fun _ => ⟨rfl, rfl, rfl, rfl⟩, fun _ => ⟨rfl, rfl⟩, fun _ => ⟨rfl, rfl, rfl⟩, fun _ => ⟨rfl, rfl, rfl, rfl, rfl⟩, fun _ => ⟨rfl, rfl, rfl⟩, fun _ _ _ => rfl, fun _ => ⟨rfl, rfl, rfl, rfl⟩, fun e => ⟨fun e2 => ⟨if_neg (Ne.symm (h1 e e2).1), if_neg (Ne.symm (h1 e e2).2)⟩, fun e2 => ⟨if_neg (Ne.symm (h2 e e2).1), if_neg (Ne.symm (h2 e e2).2.1), if_neg (Ne.symm (h2 e e2).2.2)⟩, fun _ => rfl, fun _ => rfl⟩⟩
end CW
/-- what lies beyond the class's own kinds -/
theorem cw_ext {g : GG} {ad : Nat → Nat → Nat} {Mx : MM} {x : St} {j i : Nat} (h : 11 < j) : cwM g ad Mx x j i = Mx j i := by
  unfold cwM
  rw [if_neg (by omega), if_neg (by omega), if_neg (by omega), if_neg (by omega), if_neg (by omega), if_neg (by omega), if_neg (by omega), if_neg (by omega), if_neg (by omega), if_neg (by omega), if_neg (by omega), if_neg (by omega)]
theorem cw_up {g : GG} {ad : Nat → Nat → Nat} {Mx : MM} {x : St} {k n : Nat} (hk : 11 < k) (q : Nat × va_E) : ∀ j i : Nat, cwM g ad (mUp Mx k n q) x j i = mUp (cwM g ad Mx x) k n q j i := by
  intro j i
  by_cases hj : 11 < j
  · rw [cw_ext hj]
    unfold mUp
    by_cases h : j = k ∧ i = n
    · rw [if_pos h, if_pos h]
    · rw [if_neg h, if_neg h, cw_ext hj]
  · have h : ¬ (j = k ∧ i = n) := fun q => hj (by omega)
    rw [mUp_ne _ _ h]
    unfold cwM
    have e : Mx j i = (mUp Mx k n q) j i := (mUp_ne _ _ h).symm
    rw [e]
/-- something is forgotten that stands beyond -/
theorem cw_down {g : GG} {ad : Nat → Nat → Nat} {Mx : MM} {x : St} {k n : Nat} {D : va_G} {A : Nat → Prop} {H : Heap} {q : Nat × va_E} (hk : 11 < k) (h0 : Mx k n = none) (hM : mW D A (mUp (cwM g ad Mx x) k n q) H) : mW D A (cwM g ad Mx x) H := by
  refine hM.sub (fun j i p hp => ?_)
  rw [mUp_ne]
  · exact hp
  · intro h
    rw [h.1, h.2, cw_ext hk, h0] at hp
    cases hp
section CR
variable {p : Program} {l : Launch} {e : Env} {R : Room} {s : State} {m : MethodId} {args : Array Value} {below : List Frame} {meth : Method} {c : Code} {H : Heap} {locs : List Loc} {cells slots : Nat} {Q : State → Prop}
variable {cc : ByteArray} {pc nL : Nat} {ls : Array Slot} {rest : List Value} {g : GG} {A : Nat → Prop} {a : Nat} {ad : Nat → Nat → Nat} {Mx : MM} {x : St} {own : String}
theorem cc_put (S : CallFix p m c cc nL s args lw_all own) (hE : amb g A s s.heap) (hM : mW g.1 A (cwM g ad Mx x) H) (hS : va_S A s.heap H locs) (i : Nat) (hi : i < 25) (k : Nat) (hk : k < 9) (hk2 : 2 ≤ k ∧ k ≤ 6) {index : Nat} (hl : Cond.fieldLink own index "Wakeground$Cell" (TX2 k).2.1 (TX2 k).2.2.1 ∈ lw_all) (hcls : (TX2 k).1 = "Wakeground$Cell") (hfin : (TX2 k).2.2.2 = false) (hd : parseFieldDescriptor (TX2 k).2.2.1 = some .int) (v : Int32) (hs : (cCell ad x i).set k (.int v) = (fun w => [Value.int (nI i), .ref (ad 3 i), .int (w 2), .int (w 3), .int (w 4), .int (w 5), .int (w 6), va_rf (cHou ad x i), .ref (ad 0 0)]) (fun f => if f = k then v else x.1 f i)) (hdg : decode cc pc = .ok (.putfield index, 3))
    (kk : ∀ (x' : St) (H1 : Heap) (locs1 : List Loc), sI x k i v = x' → mW g.1 A (cwM g ad Mx x') H1 → va_S A s.heap H1 locs1 → W p l e R s m args below meth c H1 locs1 cells slots Q (F0 m (pc + 3) ls rest)) : W p l e R s m args below meth c H locs cells slots Q (F0 m pc ls (.int v :: .ref (ad 2 i) :: rest)) := by
  have hC : cCell ad (sI x k i v) i = (cCell ad x i).set k (.int v) := by
    have h52 : (sI x k i v).1 52 i = x.1 52 i := if_neg (by omega)
    have hH : cHou ad (sI x k i v) i = cHou ad x i := by
      unfold cHou nt
      rw [h52]
    have key : ∀ f, (sI x k i v).1 f i = if f = k then v else x.1 f i := by
      intro f
      show (if f = k ∧ i = i then v else x.1 f i) = _
      by_cases h : f = k
      · rw [if_pos ⟨h, rfl⟩, if_pos h]
      · rw [if_neg (fun q => h q.1), if_neg h]
    rw [hs]
    unfold cCell
    rw [hH, key, key, key, key, key]
  exact m_put S.1 S.2.1 S.2.2.2.2 in_X2 tyX2 tyX2_ok nmX2 S.2.2.2.1 hE hM hS 2 i (cw_2 hi) (ci := 2) rfl k hk (S.2.2.2.2 _ hl) (fun _ h9 => by rw [hcls] at h9; exact h9) hfin hd rfl rfl (by show k < 9; exact hk) (M' := cwM g ad Mx (sI x k i v)) (by rw [← hC]; exact cw_2 hi) (fun j i' h => cw_sI (by refine ⟨?_, ?_, ?_, ?_, ?_, ?_, ?_, ?_, ?_, ?_⟩ <;> intros <;> omega)) hdg (fun H1 locs1 h1 h2 => kk _ H1 locs1 rfl h1 h2)
theorem cl_put (S : CallFix p m c cc nL s args lw_all own) (hE : amb g A s s.heap) (hM : mW g.1 A (cwM g ad Mx x) H) (hS : va_S A s.heap H locs) (i : Nat) (hi : i < 125) (k : Nat) (hk : k < 4) {index : Nat} (hl : Cond.fieldLink own index "Wakeground$Layer" (TX3 k).2.1 (TX3 k).2.2.1 ∈ lw_all) (hcls : (TX3 k).1 = "Wakeground$Layer") (hfin : (TX3 k).2.2.2 = false) (hd : parseFieldDescriptor (TX3 k).2.2.1 = some .int) (v : Int32) (hs : (cLay x i).set k (.int v) = (fun w => [Value.int (w 0), .int (w 1), .int (w 2), .int (w 3)]) (fun f => if f = k then v else x.1 (8 + f) i)) (hdg : decode cc pc = .ok (.putfield index, 3))
    (kk : ∀ (x' : St) (H1 : Heap) (locs1 : List Loc), sI x (8 + k) i v = x' → mW g.1 A (cwM g ad Mx x') H1 → va_S A s.heap H1 locs1 → W p l e R s m args below meth c H1 locs1 cells slots Q (F0 m (pc + 3) ls rest)) : W p l e R s m args below meth c H locs cells slots Q (F0 m pc ls (.int v :: .ref (ad 4 i) :: rest)) := by
  have hC : cLay (sI x (8 + k) i v) i = (cLay x i).set k (.int v) := by
    rw [hs]
    unfold cLay
    have key : ∀ f, f < 4 → (sI x (8 + k) i v).1 (8 + f) i = if f = k then v else x.1 (8 + f) i := by
      intro f _
      show (if 8 + f = 8 + k ∧ i = i then v else x.1 (8 + f) i) = _
      by_cases h : f = k
      · rw [if_pos ⟨by omega, rfl⟩, if_pos h]
      · rw [if_neg (fun q => h (by omega)), if_neg h]
    have k0 := key 0 (by decide)
    have k1 := key 1 (by decide)
    have k2 := key 2 (by decide)
    have k3 := key 3 (by decide)
    simp only [Nat.add_zero] at k0
    simp only [Nat.reduceAdd] at k1 k2 k3
    rw [k0, k1, k2, k3]
  exact m_put S.1 S.2.1 S.2.2.2.2 in_X3 tyX3 tyX3_ok nmX3 S.2.2.2.1 hE hM hS 4 i (cw_4 hi) (ci := 3) rfl k hk (S.2.2.2.2 _ hl) (fun _ h9 => by rw [hcls] at h9; exact h9) hfin hd rfl rfl (by show k < 4; exact hk) (M' := cwM g ad Mx (sI x (8 + k) i v)) (by rw [← hC]; exact cw_4 hi) (fun j i' h => cw_sI (by refine ⟨?_, ?_, ?_, ?_, ?_, ?_, ?_, ?_, ?_, ?_⟩ <;> intros <;> omega)) hdg (fun H1 locs1 h1 h2 => kk _ H1 locs1 rfl h1 h2)
end CR
