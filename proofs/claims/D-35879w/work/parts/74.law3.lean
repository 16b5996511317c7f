/-! PLAIN LAWS: the heat of a month: the class goes cell by cell, each with its house; the reference goes over all cells, then over the houses -/
set_option maxRecDepth 100000
/-- fields that one of the two alone knows, or that are only scratch -/
def dk (f : Nat) : Bool := f == 0 || f == 7 || f == 12 || f == 50 || f == 51
/-- the same in all that counts -/
def eqw (x y : St) : Prop := (∀ f, dk f = false → x.1 f = y.1 f) ∧ x.2 = y.2
theorem eqw.rf (x : St) : eqw x x := ⟨fun _ _ => rfl, rfl⟩
theorem eqw.tr {x y z : St} (h : eqw x y) (h2 : eqw y z) : eqw x z := ⟨fun f a => (h.1 f a).trans (h2.1 f a), h.2.trans h2.2⟩
theorem eqw.sy {x y : St} (h : eqw x y) : eqw y x := ⟨fun f a => (h.1 f a).symm, h.2.symm⟩
theorem eqw.k {x y : St} (h : eqw x y) {f : Nat} (q : dk f = false) : x.1 f = y.1 f := h.1 f q
theorem eqw.nt {x y : St} (h : eqw x y) {f : Nat} (q : dk f = false) (k : Nat) : nt x f k = nt y f k := by
  show (x.1 f k).toNatClampNeg = (y.1 f k).toNatClampNeg
  rw [h.k q]
theorem dk_of {f : Nat} (h0 : f ≠ 0) (h7 : f ≠ 7) (h12 : f ≠ 12) (h40 : f < 40) : dk f = false := by
  unfold dk
  simp only [Bool.or_eq_false_iff, beq_eq_false_iff_ne]
  omega
theorem eqw.v {x y : St} (h : eqw x y) : eqv x y := ⟨fun f a b c d => h.1 f (dk_of a b c d), h.2⟩
theorem eqw.sI {x y : St} (h : eqw x y) (f k : Nat) {v w : Int32} (hv : v = w) : eqw (sI x f k v) (sI y f k w) := by
  subst hv
  refine ⟨fun f2 a => ?_, h.2⟩
  funext j
  rw [sI_1, sI_1, h.1 f2 a]
theorem eqw.sL {x y : St} (h : eqw x y) (f : Nat) {v w : Int64} (hv : v = w) : eqw (sL x f v) (sL y f w) := by
  subst hv
  refine ⟨fun f2 a => h.1 f2 a, ?_⟩
  funext j
  rw [sL_2, sL_2, h.2]
theorem eqw_dk (z : St) {f : Nat} (hf : dk f = true) (k : Nat) (w : Int32) : eqw z (sI z f k w) := ⟨fun f2 a => (sI_ne z f k w (fun e => by rw [e, hf] at a; cases a)).symm, rfl⟩
theorem eqw_r0 (z : St) (w : Int32) : eqw z (sI z 0 0 w) := eqw_dk z rfl 0 w
theorem dk_n {f : Nat} (h : dk f = false) : f ≠ 0 ∧ f ≠ 7 ∧ f ≠ 12 := by
  unfold dk at h
  simp only [Bool.or_eq_false_iff, beq_eq_false_iff_ne] at h
  omega
theorem eqw_mrg {x y : St} (h : eqv x y) : eqw x (mrg x y) := by
  refine ⟨fun f a => ?_, h.2⟩
  by_cases h4 : 40 ≤ f
  · exact (mrg_cf h4).symm
  · rw [mrg_mf h4]
    obtain ⟨a1, a2, a3⟩ := dk_n a
    exact h.1 f a1 a2 a3 (by omega)
def sumL (f : Nat → Int64) : Nat → Int64
  | 0 => 0
  | n + 1 => sumL f n + f n
theorem sumL_s (f : Nat → Int64) (n : Nat) : sumL f (n + 1) = sumL f n + f n := rfl
theorem sumL_congr {f h : Nat → Int64} : ∀ n, (∀ i, i < n → f i = h i) → sumL f n = sumL h n := by
  intro n
  induction n with
  | zero => intro _; rfl
  | succ n ih => intro h1; rw [sumL_s, sumL_s, ih (fun i hi => h1 i (by omega)), h1 n (by omega)]
theorem sumL_add (f h : Nat → Int64) : ∀ n, sumL (fun i => f i + h i) n = sumL f n + sumL h n := by
  intro n
  induction n with
  | zero => exact (Int64.add_zero 0).symm
  | succ n ih => rw [sumL_s, sumL_s, sumL_s, ih]; ac_rfl
theorem sumL_zero : ∀ n, sumL (fun _ => 0) n = 0 := by
  intro n
  induction n with
  | zero => rfl
  | succ n ih => rw [sumL_s, ih]; exact Int64.add_zero 0
theorem sumL_upd {f h : Nat → Int64} {c : Nat} {v : Int64} : ∀ n, c < n → (∀ i, i < n → i ≠ c → f i = h i) → f c = h c + v → sumL f n = sumL h n + v := by
  intro n
  induction n with
  | zero => intro h1; omega
  | succ n ih =>
    intro h1 h2 h3
    rw [sumL_s, sumL_s]
    by_cases hc : c = n
    · subst hc
      rw [sumL_congr c (fun i hi => h2 i (by omega) (by omega)), h3]
      ac_rfl
    · rw [ih (by omega) (fun i hi hn => h2 i (by omega) hn) h3, h2 n (by omega) (fun e => hc e.symm)]
      ac_rfl
theorem i32_ex (A b F : Int32) : A + b - F = A - F + b := by
  rw [Int32.sub_eq_add_neg, Int32.sub_eq_add_neg]
  ac_rfl
/-- what flows from a layer to the one below -/
def hFF (x : St) (k : Nat) : Int32 := 20 * (degF x k - degF x (k + 1))
/-- a cell's heat when a comes in from above and l flows are done -/
def ledW (w : St) (k : Nat) (a : Int32) : Nat → Nat → Int32
  | 0, j => if j = 5 * k then w.1 10 (5 * k) + a else w.1 10 j
  | l + 1, j => if j = 5 * k + (l + 1) then w.1 10 (5 * k + (l + 1)) + hFF w (5 * k + l) else if j = 5 * k + l then ledW w k a l (5 * k + l) - hFF w (5 * k + l) else ledW w k a l j
theorem ledW_0 (w : St) (k : Nat) (a : Int32) (j : Nat) : ledW w k a 0 j = if j = 5 * k then w.1 10 (5 * k) + a else w.1 10 j := rfl
theorem ledW_s (w : St) (k : Nat) (a : Int32) (l j : Nat) : ledW w k a (l + 1) j = if j = 5 * k + (l + 1) then w.1 10 (5 * k + (l + 1)) + hFF w (5 * k + l) else if j = 5 * k + l then ledW w k a l (5 * k + l) - hFF w (5 * k + l) else ledW w k a l j := rfl
def hcW (w : St) (k : Nat) (a : Int32) (j : Nat) : Int32 := if j = 5 * k + 4 then ledW w k a 4 (5 * k + 4) + 10 else ledW w k a 4 j
theorem deg_cg {w w' : St} {k : Nat} (h8 : w'.1 8 k = w.1 8 k) (h9 : w'.1 9 k = w.1 9 k) (h10 : w'.1 10 k = w.1 10 k) : degF w' k = degF w k := by
  unfold degF
  rw [h8, h9, h10]
theorem ledW_cg {w w' : St} {k : Nat} (a : Int32) (h8 : w'.1 8 = w.1 8) (h9 : w'.1 9 = w.1 9) (h10 : ∀ j, 5 * k ≤ j → j < 5 * k + 5 → w'.1 10 j = w.1 10 j) : ∀ l, l ≤ 4 → ∀ j, 5 * k ≤ j → j < 5 * k + 5 → ledW w' k a l j = ledW w k a l j := by
  have hd : ∀ l, l ≤ 4 → degF w' (5 * k + l) = degF w (5 * k + l) := fun l hl => deg_cg (by rw [h8]) (by rw [h9]) (h10 _ (by omega) (by omega))
  have hF : ∀ l, l < 4 → hFF w' (5 * k + l) = hFF w (5 * k + l) := by
    intro l hl
    have h1 := hd (l + 1) (by omega)
    rw [← Nat.add_assoc] at h1
    unfold hFF
    rw [hd l (by omega), h1]
  intro l
  induction l with
  | zero =>
    intro _ j h1 h2
    rw [ledW_0, ledW_0, h10 (5 * k) (by omega) (by omega), h10 j h1 h2]
  | succ l ih =>
    intro hl j h1 h2
    rw [ledW_s, ledW_s, h10 (5 * k + (l + 1)) (by omega) (by omega), hF l (by omega), ih (by omega) (5 * k + l) (by omega) (by omega), ih (by omega) j h1 h2]
theorem ledW_out {w : St} {k : Nat} {a : Int32} : ∀ l, l ≤ 4 → ∀ j, (j < 5 * k ∨ 5 * k + l < j) → ledW w k a l j = w.1 10 j := by
  intro l
  induction l with
  | zero => intro _ j h; rw [ledW_0, if_neg (by omega)]
  | succ l ih =>
    intro hl j h
    rw [ledW_s, if_neg (by omega), if_neg (by omega)]
    exact ih (by omega) j (by omega)
theorem ledW_add {w : St} {k : Nat} {a b : Int32} : ∀ l j, ledW w k (a + b) l j = ledW w k a l j + (if j = 5 * k then b else 0) := by
  intro l
  induction l with
  | zero =>
    intro j
    rw [ledW_0, ledW_0]
    by_cases hj : j = 5 * k
    · rw [if_pos hj, if_pos hj, if_pos hj, Int32.add_assoc]
    · rw [if_neg hj, if_neg hj, if_neg hj, Int32.add_zero]
  | succ l ih =>
    intro j
    rw [ledW_s, ledW_s, ih (5 * k + l), ih j]
    by_cases c1 : j = 5 * k + (l + 1)
    · rw [if_pos c1, if_pos c1, if_neg (show ¬ j = 5 * k by omega), Int32.add_zero]
    · rw [if_neg c1, if_neg c1]
      by_cases c2 : j = 5 * k + l
      · rw [if_pos c2, if_pos c2, c2]
        exact i32_ex _ _ _
      · rw [if_neg c2, if_neg c2]
theorem hcW_cg {w w' : St} {k : Nat} (a : Int32) (h8 : w'.1 8 = w.1 8) (h9 : w'.1 9 = w.1 9) (h10 : ∀ j, 5 * k ≤ j → j < 5 * k + 5 → w'.1 10 j = w.1 10 j) {j : Nat} (h1 : 5 * k ≤ j) (h2 : j < 5 * k + 5) : hcW w' k a j = hcW w k a j := by
  unfold hcW
  rw [ledW_cg a h8 h9 h10 4 (by decide) (5 * k + 4) (by omega) (by omega), ledW_cg a h8 h9 h10 4 (by decide) j h1 h2]
theorem hcW_out {w : St} {k : Nat} {a : Int32} {j : Nat} (h : j < 5 * k ∨ 5 * k + 5 ≤ j) : hcW w k a j = w.1 10 j := by
  unfold hcW
  rw [if_neg (by omega)]
  exact ledW_out 4 (by decide) j (by omega)
theorem hcW_add {w : St} {k : Nat} {a b : Int32} {j : Nat} : hcW w k (a + b) j = hcW w k a j + (if j = 5 * k then b else 0) := by
  unfold hcW
  rw [ledW_add, ledW_add]
  by_cases c1 : j = 5 * k + 4
  · rw [if_pos c1, if_pos c1, if_neg (show ¬ 5 * k + 4 = 5 * k by omega), if_neg (show ¬ j = 5 * k by omega), Int32.add_zero, Int32.add_zero]
  · rw [if_neg c1, if_neg c1]
/-- the class's cell -/
theorem led_P (w : St) (k : Nat) (air : Int32) : ∀ f j, (ledF w k air).1 f j = if f = 10 then hcW w k (ledT w k air + ledO w k air) j else w.1 f j := by
  obtain ⟨a, ha⟩ : ∃ a, ledT w k air + ledO w k air = a := ⟨_, rfl⟩
  have s0 : (ledA w k air, cdeg w (5 * k + 0)).2 = degF w (5 * k + 0) ∧ ∀ f j, (ledA w k air, cdeg w (5 * k + 0)).1.1 f j = if f = 10 then ledW w k a 0 j else w.1 f j := by
    refine ⟨rfl, fun f j => ?_⟩
    show (ledA w k air).1 f j = _
    unfold ledA
    rw [ha, Nat.add_zero, sI_1, ledW_0]
    by_cases hf : f = 10
    · subst hf
      rw [if_pos rfl]
      by_cases hj : j = 5 * k
      · rw [if_pos ⟨rfl, hj⟩, if_pos hj]
      · rw [if_neg (fun z => hj z.2), if_neg hj]
    · rw [if_neg (fun z => hf z.1), if_neg hf]
  have step : ∀ (l : Nat) (q : St × Int32), l < 4 → (q.2 = degF w (5 * k + l) ∧ ∀ f j, q.1.1 f j = if f = 10 then ledW w k a l j else w.1 f j) → ((ledS k q (l + 1)).2 = degF w (5 * k + (l + 1)) ∧ ∀ f j, (ledS k q (l + 1)).1.1 f j = if f = 10 then ledW w k a (l + 1) j else w.1 f j) := by
    intro l q hl hq
    obtain ⟨h2, h⟩ := hq
    have e10 : q.1.1 10 (5 * k + (l + 1)) = w.1 10 (5 * k + (l + 1)) := by
      rw [h, if_pos rfl]
      exact ledW_out l (by omega) _ (by omega)
    have ed : cdeg q.1 (5 * k + (l + 1)) = degF w (5 * k + (l + 1)) := by
      rw [cdeg_deg]
      exact deg_cg ((h 8 _).trans (if_neg (by decide))) ((h 9 _).trans (if_neg (by decide))) e10
    have eF : 20 * (q.2 - cdeg q.1 (5 * k + (l + 1))) = hFF w (5 * k + l) := by
      rw [h2, ed]
      rfl
    refine ⟨ed, fun f j => ?_⟩
    show (sI (sI q.1 10 (5 * k + (l + 1 - 1)) (q.1.1 10 (5 * k + (l + 1 - 1)) - 20 * (q.2 - cdeg q.1 (5 * k + (l + 1))))) 10 (5 * k + (l + 1)) ((sI q.1 10 (5 * k + (l + 1 - 1)) (q.1.1 10 (5 * k + (l + 1 - 1)) - 20 * (q.2 - cdeg q.1 (5 * k + (l + 1))))).1 10 (5 * k + (l + 1)) + 20 * (q.2 - cdeg q.1 (5 * k + (l + 1))))).1 f j = _
    rw [eF, Nat.add_sub_cancel]
    by_cases hf : f = 10
    · subst hf
      rw [if_pos rfl, ledW_s, sI_1]
      by_cases c1 : j = 5 * k + (l + 1)
      · rw [if_pos ⟨rfl, c1⟩, if_pos c1, sI_o (by omega), e10]
      · rw [if_neg (fun z => c1 z.2), if_neg c1, sI_1]
        by_cases c2 : j = 5 * k + l
        · rw [if_pos ⟨rfl, c2⟩, if_pos c2, h, if_pos rfl]
        · rw [if_neg (fun z => c2 z.2), if_neg c2, h, if_pos rfl]
    · rw [sI_o (fun z => hf z.1), sI_o (fun z => hf z.1), h, if_neg hf, if_neg hf]
  have s4 := step 3 _ (by decide) (step 2 _ (by decide) (step 1 _ (by decide) (step 0 _ (by decide) s0)))
  intro f j
  have e4 : ∀ f j, (ledQ w k air).1.1 f j = if f = 10 then ledW w k a 4 j else w.1 f j := s4.2
  unfold ledF
  rw [ha, sI_1]
  by_cases hf : f = 10
  · subst hf
    rw [if_pos rfl]
    unfold hcW
    by_cases c1 : j = 5 * k + 4
    · rw [if_pos ⟨rfl, c1⟩, if_pos c1, e4, if_pos rfl]
    · rw [if_neg (fun z => c1 z.2), if_neg c1, e4, if_pos rfl]
  · rw [if_neg (fun z => hf z.1), e4, if_neg hf, if_neg hf]
theorem led_2 (w : St) (k : Nat) (air : Int32) : (ledF w k air).2 = w.2 := rfl
/-- the reference's cell -/
theorem bri_1 (y : St) (k : Nat) (v : Int32) (f j : Nat) : (briF y k v).1 f j = if f = 10 ∧ j = k then y.1 10 k + v else y.1 f j := rfl
theorem bri_2 (y : St) (k : Nat) (v : Int32) (f : Nat) : (briF y k v).2 f = if f = 26 then y.2 26 + v.toInt64 else y.2 f := rfl
theorem con_P (w : St) (k : Nat) (v : Int32) (h12 : ∀ l, l ≤ 4 → w.1 12 (5 * k + l) = degF w (5 * k + l)) : ∀ l, l ≤ 4 → (∀ f j, (conL (briF w (5 * k) v) k l).1 f j = if f = 10 then ledW w k v l j else w.1 f j) ∧ (conL (briF w (5 * k) v) k l).2 = (briF w (5 * k) v).2 := by
  intro l
  induction l with
  | zero =>
    intro _
    refine ⟨fun f j => ?_, rfl⟩
    show (briF w (5 * k) v).1 f j = _
    rw [bri_1, ledW_0]
    by_cases hf : f = 10
    · subst hf
      rw [if_pos rfl]
      by_cases hj : j = 5 * k
      · rw [if_pos ⟨rfl, hj⟩, if_pos hj]
      · rw [if_neg (fun z => hj z.2), if_neg hj]
    · rw [if_neg (fun z => hf z.1), if_neg hf]
  | succ l ih =>
    intro hl
    obtain ⟨h, hb⟩ := ih (by omega)
    have es : conL (briF w (5 * k) v) k (l + 1) = conF (conL (briF w (5 * k) v) k l) (5 * k + l) := it_succ _ _ _
    rw [es]
    generalize conL (briF w (5 * k) v) k l = q at h hb
    refine ⟨fun f j => ?_, hb⟩
    have e10 : q.1 10 (5 * k + (l + 1)) = w.1 10 (5 * k + (l + 1)) := by
      rw [h, if_pos rfl]
      exact ledW_out l (by omega) _ (by omega)
    have eF : conM q (5 * k + l) = hFF w (5 * k + l) := by
      unfold conM hFF
      have h1 := h12 (l + 1) (by omega)
      rw [← Nat.add_assoc] at h1
      rw [h, h, if_neg (by decide), if_neg (by decide), h12 l (by omega), h1]
    unfold conF
    rw [eF, Nat.add_assoc]
    by_cases hf : f = 10
    · subst hf
      rw [if_pos rfl, ledW_s, sI_1]
      by_cases c1 : j = 5 * k + (l + 1)
      · rw [if_pos ⟨rfl, c1⟩, if_pos c1, sI_o (by omega), e10]
      · rw [if_neg (fun z => c1 z.2), if_neg c1, sI_1]
        by_cases c2 : j = 5 * k + l
        · rw [if_pos ⟨rfl, c2⟩, if_pos c2, h, if_pos rfl]
        · rw [if_neg (fun z => c2 z.2), if_neg c2, h, if_pos rfl]
    · rw [sI_o (fun z => hf z.1), sI_o (fun z => hf z.1), h, if_neg hf, if_neg hf]
theorem het_P (w : St) (k : Nat) (air : Int32) (h12 : ∀ l, l ≤ 4 → w.1 12 (5 * k + l) = degF w (5 * k + l)) : (∀ f j, (het1 air w k).1 f j = if f = 10 then hcW w k (leaF w k air) j else w.1 f j) ∧ (∀ f, (het1 air w k).2 f = if f = 26 then w.2 26 + (leaF w k air).toInt64 + (10 : Int32).toInt64 else w.2 f) := by
  obtain ⟨h, hb⟩ := con_P w k (leaF w k air) h12 4 (by decide)
  unfold het1
  generalize conL (briF w (5 * k) (leaF w k air)) k 4 = q at h hb
  refine ⟨fun f j => ?_, fun f => ?_⟩
  · rw [bri_1]
    by_cases hf : f = 10
    · subst hf
      rw [if_pos rfl]
      unfold hcW
      by_cases c1 : j = 5 * k + 4
      · rw [if_pos ⟨rfl, c1⟩, if_pos c1, h, if_pos rfl]
      · rw [if_neg (fun z => c1 z.2), if_neg c1, h, if_pos rfl]
    · rw [if_neg (fun z => hf z.1), h, if_neg hf, if_neg hf]
  · rw [bri_2, hb, bri_2, bri_2, if_pos rfl]
    by_cases hf : f = 26
    · rw [if_pos hf, if_pos hf]
    · rw [if_neg hf, if_neg hf, if_neg hf]
/-! the snow, and what comes in from above -/
def snN (x : St) (air fall : Int32) (c : Nat) : Int32 := if 0 ≤ air then 0 else lesF 9 (x.1 4 c + fall)
def hTT (x : St) (air fall : Int32) (c : Nat) : Int32 := (if lakF x c = 0 then 60 / (2 + snN x air fall c + 2 * x.1 5 c) else 30) * ((if lakF x c = 0 then air else greF 0 air) - degF x (5 * c))
theorem ledT_h {x w : St} {air fall : Int32} {i : Nat} (h3 : w.1 3 i = x.1 3 i) (h4 : w.1 4 i = snN x air fall i) (h5 : w.1 5 i = x.1 5 i) (hd : degF w (5 * i) = degF x (5 * i)) : ledT w i air = hTT x air fall i := by
  have hl : clkF w i = lakF x i := by
    rw [clk_lak]
    unfold lakF
    rw [h3]
  unfold ledT hTT
  rw [hl, h4, h5, Nat.add_zero, cdeg_deg, hd, jmax_gre]
  by_cases hk : lakF x i = 0
  · rw [if_pos hk, if_pos hk, if_pos hk]
  · rw [if_neg hk, if_neg hk, if_neg hk]
theorem leaF_h {x w : St} {air fall : Int32} {i : Nat} (h3 : w.1 3 i = x.1 3 i) (h4 : w.1 4 i = snN x air fall i) (h5 : w.1 5 i = x.1 5 i) (hd : w.1 12 (5 * i) = degF x (5 * i)) : leaF w i air = hTT x air fall i := by
  have hl : lakF w i = lakF x i := by
    unfold lakF
    rw [h3]
  unfold leaF hTT
  rw [hl, h4, h5, hd]
/-- the class, all cells -/
theorem cp1_P (x : St) (air fall : Int32) : ∀ i, i ≤ 25 → (∀ f, f ≠ 4 → f ≠ 10 → (cp1 x air fall i).1 f = x.1 f) ∧ (∀ j, (cp1 x air fall i).1 4 j = if j < i then snN x air fall j else x.1 4 j) ∧ (∀ j, (cp1 x air fall i).1 10 j = if j < 5 * i then hcW x (j / 5) (hTT x air fall (j / 5) + ledO x (j / 5) air) j else x.1 10 j) ∧ (∀ f, (cp1 x air fall i).2 f = if f = 26 then x.2 26 + sumL (fun c => (hTT x air fall c + ledO x c air + 10).toInt64) i else x.2 f) := by
  intro i
  induction i with
  | zero =>
    intro _
    have e0 : cp1 x air fall 0 = x := it_zero _ _
    rw [e0]
    refine ⟨fun _ _ _ => rfl, fun j => (if_neg (by omega)).symm, fun j => (if_neg (by omega)).symm, fun f => ?_⟩
    by_cases hf : f = 26
    · rw [if_pos hf, hf]
      exact (Int64.add_zero _).symm
    · rw [if_neg hf]
  | succ i ih =>
    intro hi
    obtain ⟨hO, h4, h10, hL⟩ := ih (by omega)
    rw [cp1_s]
    generalize cp1 x air fall i = y at hO h4 h10 hL
    unfold cp1S
    have w4 : (csnF air fall y i).1 4 i = snN x air fall i := by
      unfold csnF snN
      rw [sI_1, if_pos ⟨rfl, rfl⟩, h4, if_neg (by omega), jmin_les]
    have wo : ∀ f, f ≠ 4 → (csnF air fall y i).1 f = y.1 f := fun f hf => sI_ne y 4 i _ hf
    have w4o : ∀ j, j ≠ i → (csnF air fall y i).1 4 j = y.1 4 j := fun j hj => sI_o (fun z => hj z.2)
    have w2 : (csnF air fall y i).2 = y.2 := rfl
    generalize csnF air fall y i = w at w4 wo w4o w2
    have e8 : w.1 8 = x.1 8 := (wo 8 (by decide)).trans (hO 8 (by decide) (by decide))
    have e9 : w.1 9 = x.1 9 := (wo 9 (by decide)).trans (hO 9 (by decide) (by decide))
    have e10 : ∀ j, 5 * i ≤ j → j < 5 * i + 5 → w.1 10 j = x.1 10 j := fun j h1 _ => by
      rw [wo 10 (by decide), h10, if_neg (by omega)]
    have hT : ledT w i air = hTT x air fall i := ledT_h (by rw [wo 3 (by decide), hO 3 (by decide) (by decide)]) w4 (by rw [wo 5 (by decide), hO 5 (by decide) (by decide)]) (deg_cg (by rw [e8]) (by rw [e9]) (e10 _ (by omega) (by omega)))
    have hOo : ledO w i air = ledO x i air := by
      unfold ledO chtF nt
      rw [wo 52 (by decide), hO 52 (by decide) (by decide), wo 16 (by decide), hO 16 (by decide) (by decide)]
    have hP := led_P w i air
    rw [hT, hOo] at hP ⊢
    refine ⟨fun f q4 q10 => ?_, fun j => ?_, fun j => ?_, fun f => ?_⟩
    · funext j
      rw [sL_1, hP, if_neg q10, wo f q4, hO f q4 q10]
    · rw [sL_1, hP, if_neg (by decide)]
      by_cases hj : j = i
      · subst hj
        rw [w4, if_pos (by omega)]
      · rw [w4o j hj, h4]
        by_cases h : j < i
        · rw [if_pos h, if_pos (by omega)]
        · rw [if_neg h, if_neg (by omega)]
    · rw [sL_1, hP, if_pos rfl]
      by_cases hj : j < 5 * i
      · rw [if_pos (by omega), hcW_out (by omega), wo 10 (by decide), h10, if_pos hj]
      · by_cases hj2 : j < 5 * (i + 1)
        · rw [if_pos hj2, show j / 5 = i by omega]
          exact hcW_cg _ e8 e9 e10 (by omega) (by omega)
        · rw [if_neg hj2, hcW_out (by omega), wo 10 (by decide), h10, if_neg hj]
    · rw [sL_2, led_2, w2]
      by_cases hf : f = 26
      · rw [if_pos (show f = 26 + 0 from hf), if_pos hf, hL, if_pos rfl, sumL_s, Int64.add_assoc]
      · rw [if_neg (show ¬ f = 26 + 0 from hf), if_neg hf, hL, if_neg hf]
