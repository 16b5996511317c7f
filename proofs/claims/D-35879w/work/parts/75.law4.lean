/-! PLAIN LAWS: the reference's heat, all cells and houses; the two agree -/
set_option maxRecDepth 100000
theorem pa1_P (x : St) (air fall : Int32) : ∀ i, (∀ f, f ≠ 4 → (pa1 x air fall i).1 f = x.1 f) ∧ (∀ j, (pa1 x air fall i).1 4 j = if j < i then snN x air fall j else x.1 4 j) ∧ (pa1 x air fall i).2 = x.2 := by
  intro i
  induction i with
  | zero =>
    have e0 : pa1 x air fall 0 = x := it_zero _ _
    rw [e0]
    exact ⟨fun _ _ => rfl, fun j => (if_neg (by omega)).symm, rfl⟩
  | succ i ih =>
    obtain ⟨hO, h4, h2⟩ := ih
    rw [pa1_s]
    generalize pa1 x air fall i = y at hO h4 h2
    refine ⟨fun f hf => (sI_ne y 4 i _ hf).trans (hO f hf), fun j => ?_, h2⟩
    unfold snoF
    rw [sI_1]
    by_cases hj : j = i
    · subst hj
      rw [if_pos ⟨rfl, rfl⟩, if_pos (by omega), h4, if_neg (by omega)]
      rfl
    · rw [if_neg (fun z => hj z.2), h4]
      by_cases h : j < i
      · rw [if_pos h, if_pos (by omega)]
      · rw [if_neg h, if_neg (by omega)]
theorem degL_P (p : St) : ∀ i, (∀ f, f ≠ 12 → (degL p i).1 f = p.1 f) ∧ (∀ j, j < i → (degL p i).1 12 j = degF p j) ∧ (degL p i).2 = p.2 := by
  intro i
  induction i with
  | zero => exact ⟨fun _ _ => rfl, fun j h => absurd h (Nat.not_lt_zero j), rfl⟩
  | succ i ih =>
    obtain ⟨hO, h12, h2⟩ := ih
    have es : degL p (i + 1) = sI (degL p i) 12 i (degF (degL p i) i) := it_succ _ _ _
    rw [es]
    generalize degL p i = y at hO h12 h2
    have ed : degF y i = degF p i := deg_cg (by rw [hO 8 (by decide)]) (by rw [hO 9 (by decide)]) (by rw [hO 10 (by decide)])
    refine ⟨fun f hf => (sI_ne y 12 i _ hf).trans (hO f hf), fun j hj => ?_, h2⟩
    rw [sI_1, ed]
    by_cases e : j = i
    · rw [if_pos ⟨rfl, e⟩, e]
    · rw [if_neg (fun z => e z.2)]
      exact h12 j (by omega)
theorem hetA_P (x : St) (air fall : Int32) : ∀ i, i ≤ 25 → (∀ f, f ≠ 4 → f ≠ 10 → f ≠ 12 → (hetA (pa1 x air fall 25) air i).1 f = x.1 f) ∧ (∀ j, (hetA (pa1 x air fall 25) air i).1 4 j = if j < 25 then snN x air fall j else x.1 4 j) ∧ (∀ j, j < 125 → (hetA (pa1 x air fall 25) air i).1 12 j = degF x j) ∧ (∀ j, (hetA (pa1 x air fall 25) air i).1 10 j = if j < 5 * i then hcW x (j / 5) (hTT x air fall (j / 5)) j else x.1 10 j) ∧ (∀ f, (hetA (pa1 x air fall 25) air i).2 f = if f = 26 then x.2 26 + sumL (fun c => (hTT x air fall c).toInt64 + (10 : Int32).toInt64) i else x.2 f) := by
  obtain ⟨pO, p4, p2⟩ := pa1_P x air fall 25
  generalize pa1 x air fall 25 = p at pO p4 p2
  obtain ⟨dO, d12, d2⟩ := degL_P p 125
  have dx : ∀ j, degF p j = degF x j := fun j => deg_cg (by rw [pO 8 (by decide)]) (by rw [pO 9 (by decide)]) (by rw [pO 10 (by decide)])
  intro i
  induction i with
  | zero =>
    intro _
    have e0 : hetA p air 0 = degL p 125 := it_zero _ _
    rw [e0]
    refine ⟨fun f h4 _ h12 => (dO f h12).trans (pO f h4), fun j => by rw [dO 4 (by decide), p4], fun j hj => (d12 j hj).trans (dx j), fun j => ?_, fun f => ?_⟩
    · rw [if_neg (by omega), dO 10 (by decide), pO 10 (by decide)]
    · rw [d2, p2]
      by_cases hf : f = 26
      · rw [if_pos hf, hf]
        exact (Int64.add_zero _).symm
      · rw [if_neg hf]
  | succ i ih =>
    intro hi
    obtain ⟨hO, h4, h12, h10, hL⟩ := ih (by omega)
    have es : hetA p air (i + 1) = het1 air (hetA p air i) i := it_succ _ _ _
    rw [es]
    generalize hetA p air i = w at hO h4 h12 h10 hL
    have e8 : w.1 8 = x.1 8 := hO 8 (by decide) (by decide) (by decide)
    have e9 : w.1 9 = x.1 9 := hO 9 (by decide) (by decide) (by decide)
    have e10 : ∀ j, 5 * i ≤ j → j < 5 * i + 5 → w.1 10 j = x.1 10 j := fun j h1 _ => by
      rw [h10, if_neg (by omega)]
    obtain ⟨hP, hQ⟩ := het_P w i air (fun l hl => by
      rw [h12 _ (by omega)]
      exact (deg_cg (by rw [e8]) (by rw [e9]) (e10 _ (by omega) (by omega))).symm)
    have hT : leaF w i air = hTT x air fall i := leaF_h (by rw [hO 3 (by decide) (by decide) (by decide)]) (by rw [h4, if_pos (by omega)]) (by rw [hO 5 (by decide) (by decide) (by decide)]) (h12 _ (by omega))
    rw [hT] at hP hQ
    refine ⟨fun f q4 q10 q12 => ?_, fun j => ?_, fun j hj => ?_, fun j => ?_, fun f => ?_⟩
    · funext j
      rw [hP, if_neg q10, hO f q4 q10 q12]
    · rw [hP, if_neg (by decide), h4]
    · rw [hP, if_neg (by decide), h12 j hj]
    · rw [hP, if_pos rfl]
      by_cases hj : j < 5 * i
      · rw [if_pos (by omega), hcW_out (by omega), h10, if_pos hj]
      · by_cases hj2 : j < 5 * (i + 1)
        · rw [if_pos hj2, show j / 5 = i by omega]
          exact hcW_cg _ e8 e9 e10 (by omega) (by omega)
        · rw [if_neg hj2, hcW_out (by omega), h10, if_neg hj]
    · rw [hQ]
      by_cases hf : f = 26
      · rw [if_pos hf, if_pos hf, hL, if_pos rfl, sumL_s, Int64.add_assoc, Int64.add_assoc]
      · rw [if_neg hf, if_neg hf, hL, if_neg hf]
/-- houses and cells belong together -/
def HR (z : St) : Prop := (∀ h, h < nt z 13 0 → z.1 52 (nt z 14 h) = nI h) ∧ (∀ c, c < 25 → z.1 52 c = (-1) ∨ (nt z 52 c < nt z 13 0 ∧ z.1 52 c = nI (nt z 52 c) ∧ nt z 14 (nt z 52 c) = c)) ∧ (∀ h, h < 10 → nt z 18 h ≤ nt z 1 0)
def oNN (x : St) (air : Int32) (n j : Nat) : Int32 := if j % 5 = 0 ∧ j < 125 ∧ ¬ x.1 52 (j / 5) = (-1) ∧ nt x 52 (j / 5) < n then chtF x (nt x 52 (j / 5)) air else 0
theorem cht_v (x : St) (h : Nat) (air : Int32) : (if x.1 16 h = 0 then (300 : Int32) else (if 0 ≤ air then 300 else 0)) = chtF x h air := by
  unfold chtF
  by_cases h1 : x.1 16 h = 0
  · rw [if_pos h1, if_pos h1]; rfl
  · rw [if_neg h1, if_neg h1]
    by_cases h2 : 0 ≤ air
    · rw [if_pos h2, if_pos h2]; rfl
    · rw [if_neg h2, if_neg h2]; rfl
theorem hoh_P {x y : St} (air : Int32) (h14 : y.1 14 = x.1 14) (h16 : y.1 16 = x.1 16) (hok : okM x) (hr : HR x) : ∀ n, n ≤ nt x 13 0 → (∀ f, f ≠ 10 → (it (hohF air) y n).1 f = y.1 f) ∧ (∀ j, (it (hohF air) y n).1 10 j = y.1 10 j + oNN x air n j) ∧ (∀ f, (it (hohF air) y n).2 f = if f = 26 then y.2 26 + sumL (fun c => (oNN x air n (5 * c)).toInt64) 25 else y.2 f) := by
  obtain ⟨r1, r2, -⟩ := hr
  have hb13 : nt x 13 0 < 11 := hok.h13.2
  intro n
  induction n with
  | zero =>
    intro _
    have ez : ∀ j, oNN x air 0 j = 0 := fun j => if_neg (fun z => absurd z.2.2.2 (Nat.not_lt_zero _))
    refine ⟨fun _ _ => rfl, fun j => by rw [ez, Int32.add_zero]; rfl, fun f => ?_⟩
    show y.2 f = _
    by_cases hf : f = 26
    · rw [if_pos hf, hf, sumL_congr (h := fun _ => 0) 25 (fun i _ => by rw [ez]; rfl), sumL_zero, Int64.add_zero]
    · rw [if_neg hf]
  | succ n ih =>
    intro hn
    obtain ⟨hO, h10, hL⟩ := ih (by omega)
    rw [it_succ]
    generalize it (hohF air) y n = z at hO h10 hL
    have hs := hok.h14 (c := n) (by omega)
    have ec : nt z 14 n = nt x 14 n := by
      unfold nt
      rw [hO 14 (by decide), h14]
    have ev : (if z.1 16 n = 0 then (300 : Int32) else (if 0 ≤ air then 300 else 0)) = chtF x n air := by
      rw [hO 16 (by decide), h16]
      exact cht_v x n air
    unfold hohF
    rw [ec, ev]
    obtain ⟨c0, hc0⟩ : ∃ c0, nt x 14 n = c0 := ⟨_, rfl⟩
    have hc25 : c0 < 25 := by rw [← hc0]; exact hs.2
    have e52 : x.1 52 c0 = nI n := by rw [← hc0]; exact r1 n (by omega)
    have n52 : nt x 52 c0 = n := by
      unfold nt
      rw [e52, nI_clamp (by omega)]
    have hne : ¬ x.1 52 c0 = (-1) := by rw [e52]; exact nI_m1 n (by omega)
    rw [hc0]
    have o1 : oNN x air n (5 * c0) = 0 := by
      refine if_neg (fun q => ?_)
      rw [show 5 * c0 / 5 = c0 by omega, n52] at q
      exact absurd q.2.2.2 (Nat.lt_irrefl n)
    have o2 : oNN x air (n + 1) (5 * c0) = chtF x n air := by
      unfold oNN
      rw [show 5 * c0 / 5 = c0 by omega, n52]
      exact if_pos ⟨by omega, by omega, hne, by omega⟩
    have o3 : ∀ j, j ≠ 5 * c0 → oNN x air (n + 1) j = oNN x air n j := by
      intro j hj
      unfold oNN
      by_cases a1 : j % 5 = 0 ∧ j < 125 ∧ ¬ x.1 52 (j / 5) = (-1)
      · have hm : nt x 52 (j / 5) ≠ n := by
          intro e
          rcases r2 (j / 5) (by omega) with q | ⟨-, -, q3⟩
          · exact a1.2.2 q
          · rw [e, hc0] at q3
            omega
        by_cases a2 : nt x 52 (j / 5) < n
        · rw [if_pos ⟨a1.1, a1.2.1, a1.2.2, by omega⟩, if_pos ⟨a1.1, a1.2.1, a1.2.2, a2⟩]
        · rw [if_neg (fun q => by have := q.2.2.2; omega), if_neg (fun q => a2 q.2.2.2)]
      · rw [if_neg (fun q => a1 ⟨q.1, q.2.1, q.2.2.1⟩), if_neg (fun q => a1 ⟨q.1, q.2.1, q.2.2.1⟩)]
    refine ⟨fun f hf => ?_, fun j => ?_, fun f => ?_⟩
    · funext j
      rw [bri_1, if_neg (fun q => hf q.1), hO f hf]
    · rw [bri_1]
      by_cases hj : j = 5 * c0
      · rw [if_pos ⟨rfl, hj⟩, h10, hj, o1, o2, Int32.add_zero]
      · rw [if_neg (fun q => hj q.2), h10, o3 j hj]
    · rw [bri_2]
      by_cases hf : f = 26
      · rw [if_pos hf, if_pos hf, hL, if_pos rfl, Int64.add_assoc]
        congr 1
        refine (sumL_upd (c := c0) 25 hc25 (fun i hi hne => ?_) ?_).symm
        · rw [o3 _ (by omega)]
        · rw [o1, o2]
          exact (Int64.zero_add _).symm
      · rw [if_neg hf, if_neg hf, hL, if_neg hf]
theorem oNN_led {x : St} (hr : HR x) (air : Int32) {c : Nat} (hc : c < 25) : oNN x air (nt x 13 0) (5 * c) = ledO x c air := by
  unfold oNN ledO
  rw [show 5 * c / 5 = c by omega]
  rcases hr.2.1 c hc with q | ⟨q1, q2, q3⟩
  · rw [if_pos q, if_neg (fun z => z.2.2.1 q)]
  · have hne : ¬ x.1 52 c = (-1) := by
      intro e
      have : nt x 52 c = 0 := by
        unfold nt
        rw [e]
        rfl
      rw [this, e] at q2
      exact absurd q2 (by decide)
    rw [if_neg hne, if_pos ⟨by omega, by omega, hne, q1⟩]
/-! bounds: the sums that come in are small -/
theorem bm64 {z : Int} (h1 : -9223372036854775808 ≤ z) (h2 : z < 9223372036854775808) : z.bmod (2 ^ 64) = z := by
  rw [Int.bmod_def]
  split <;> omega
theorem i64_add {a b : Int32} (h1 : -2147483648 ≤ a.toInt + b.toInt) (h2 : a.toInt + b.toInt < 2147483648) : (a + b).toInt64 = a.toInt64 + b.toInt64 := by
  apply Int64.toInt_inj.1
  rw [Int32.toInt_toInt64, Int32.toInt_add, Int64.toInt_add, Int32.toInt_toInt64, Int32.toInt_toInt64, bm32 h1 h2, bm64 (by omega) (by omega)]
theorem i32_div100 (a : Int32) : -21474837 ≤ (a / 100).toInt ∧ (a / 100).toInt ≤ 21474837 := by
  have r := i32_rng a
  rw [Int32.toInt_div, show (100 : Int32).toInt = 100 from rfl]
  by_cases hn : 0 ≤ a.toInt
  · rw [Int.tdiv_eq_ediv_of_nonneg hn, bm32 (by omega) (by omega)]
    omega
  · have : a.toInt.tdiv 100 = -((-a.toInt) / 100) := by
      rw [← Int.tdiv_eq_ediv_of_nonneg (by omega), Int.neg_tdiv]
      omega
    rw [this, bm32 (by omega) (by omega)]
    omega
theorem degF_bd (x : St) (k : Nat) : -21474837 ≤ (degF x k).toInt ∧ (degF x k).toInt ≤ 21474837 := by
  unfold degF
  by_cases h : 0 ≤ x.1 10 k
  · rw [if_pos h]
    by_cases h2 : x.1 10 k ≤ 1000 * (x.1 8 k + x.1 9 k)
    · rw [if_pos h2]
      decide
    · rw [if_neg h2]
      exact i32_div100 _
  · rw [if_neg h]
    exact i32_div100 _
theorem mul_bd (d D : Int) (h1 : -D ≤ d) (h2 : d ≤ D) (hD : 0 ≤ D) : ∀ l : Nat, -(l * D) ≤ l * d ∧ l * d ≤ l * D := by
  intro l
  induction l with
  | zero => simp
  | succ l ih =>
    have e1 : ((l + 1 : Nat) : Int) * d = l * d + d := by rw [Int.natCast_add, Int.add_mul]; simp
    have e2 : ((l + 1 : Nat) : Int) * D = l * D + D := by rw [Int.natCast_add, Int.add_mul]; simp
    rw [e1, e2]
    omega
theorem snN_ok {x : St} {air fall : Int32} (hok : okM x) (hf : okN fall 10) {c : Nat} (hc : c < 25) : ∃ s, s ≤ 9 ∧ snN x air fall c = nI s := by
  unfold snN
  by_cases h : 0 ≤ air
  · rw [if_pos h]
    exact ⟨0, by omega, rfl⟩
  · rw [if_neg h]
    obtain ⟨a1, b1⟩ := hok.h4 hc
    obtain ⟨a2, b2⟩ := hf
    rw [a1, a2, nI_add]
    unfold lesF
    by_cases h3 : nI ((x.1 4 c).toNatClampNeg + fall.toNatClampNeg) ≤ 9
    · rw [if_pos h3]
      exact ⟨_, (nI_leI (b := 9) (by omega) (by decide)).mp h3, rfl⟩
    · rw [if_neg h3]
      exact ⟨9, by omega, rfl⟩
theorem hTT_bd {x : St} {air fall : Int32} (hok : okM x) (hf : okN fall 10) (ha1 : -50 ≤ air.toInt) (ha2 : air.toInt ≤ 30) {c : Nat} (hc : c < 25) : -700000000 ≤ (hTT x air fall c).toInt ∧ (hTT x air fall c).toInt ≤ 700000000 := by
  have hl : ∃ l : Nat, l ≤ 30 ∧ (if lakF x c = 0 then 60 / (2 + snN x air fall c + 2 * x.1 5 c) else 30) = nI l := by
    by_cases h : lakF x c = 0
    · rw [if_pos h]
      obtain ⟨s, hs, es⟩ := snN_ok (air := air) hok hf hc
      obtain ⟨e5, b5⟩ := hok.h5 hc
      have e : (2 : Int32) + snN x air fall c + 2 * x.1 5 c = nI (2 + s + 2 * (x.1 5 c).toNatClampNeg) := by
        rw [es, ← nI_add, ← nI_add, ← pk_mul, ← e5]
        rfl
      rw [e, show (60 : Int32) = nI 60 from rfl, pk_div (by decide) (by omega) (by omega)]
      exact ⟨_, Nat.div_le_of_le_mul (by omega), rfl⟩
    · rw [if_neg h]
      exact ⟨30, by omega, rfl⟩
  obtain ⟨l, hl, el⟩ := hl
  have hd : ∃ D : Int, -21474900 ≤ D ∧ D ≤ 21474900 ∧ ((if lakF x c = 0 then air else greF 0 air) - degF x (5 * c)).toInt = D := by
    have hb := degF_bd x (5 * c)
    have hg : -50 ≤ (if lakF x c = 0 then air else greF 0 air).toInt ∧ (if lakF x c = 0 then air else greF 0 air).toInt ≤ 30 := by
      by_cases h : lakF x c = 0
      · rw [if_pos h]; exact ⟨ha1, ha2⟩
      · rw [if_neg h]
        unfold greF
        by_cases h2 : 0 ≤ air
        · rw [if_pos h2]; exact ⟨ha1, ha2⟩
        · rw [if_neg h2]; decide
    refine ⟨_, ?_, ?_, rfl⟩
    · rw [Int32.toInt_sub, bm32 (by omega) (by omega)]
      omega
    · rw [Int32.toInt_sub, bm32 (by omega) (by omega)]
      omega
  obtain ⟨D, d1, d2, ed⟩ := hd
  have hm := mul_bd D 21474900 (by omega) d2 (by decide) l
  unfold hTT
  rw [el, Int32.toInt_mul, ed, nI_toInt (by omega)]
  generalize (l : Int) * D = P at hm
  rw [bm32 (by omega) (by omega)]
  omega
theorem cht_bd (x : St) (h : Nat) (air : Int32) : 0 ≤ (chtF x h air).toInt ∧ (chtF x h air).toInt ≤ 300 := by
  rw [← cht_v]
  repeat' split
  all_goals decide
theorem ledO_bd (x : St) (k : Nat) (air : Int32) : 0 ≤ (ledO x k air).toInt ∧ (ledO x k air).toInt ≤ 300 := by
  unfold ledO
  by_cases h : x.1 52 k = (-1)
  · rw [if_pos h]; decide
  · rw [if_neg h]; exact cht_bd x _ air
theorem lead_l {x : St} {air fall : Int32} (hok : okM x) (hf : okN fall 10) (ha1 : -50 ≤ air.toInt) (ha2 : air.toInt ≤ 30) {c : Nat} (hc : c < 25) : (hTT x air fall c + ledO x c air + 10).toInt64 = (hTT x air fall c).toInt64 + (10 : Int32).toInt64 + (ledO x c air).toInt64 := by
  have b1 := hTT_bd hok hf ha1 ha2 hc
  have b2 := ledO_bd x c air
  have e1 : (hTT x air fall c + ledO x c air).toInt = (hTT x air fall c).toInt + (ledO x c air).toInt := by
    rw [Int32.toInt_add, bm32 (by omega) (by omega)]
  rw [i64_add (by rw [e1, show (10 : Int32).toInt = 10 from rfl]; omega) (by rw [e1, show (10 : Int32).toInt = 10 from rfl]; omega), i64_add (by omega) (by omega)]
  ac_rfl
/-- a month's heat -/
theorem heat_eqv {x : St} {air fall : Int32} (hok : okM x) (hr : HR x) (hf : okN fall 10) (ha1 : -50 ≤ air.toInt) (ha2 : air.toInt ≤ 30) : eqw (cp1 x air fall 25) (hetF (pa1 x air fall 25) air) := by
  obtain ⟨cO, c4, c10, cL⟩ := cp1_P x air fall 25 (Nat.le_refl _)
  have hP := hetA_P x air fall 25 (Nat.le_refl _)
  have n13 : nt (pa1 x air fall 25) 13 0 = nt x 13 0 := by
    unfold nt
    rw [(pa1_P x air fall 25).1 13 (by decide)]
  unfold hetF
  rw [n13]
  generalize cp1 x air fall 25 = a at cO c4 c10 cL
  generalize hetA (pa1 x air fall 25) air 25 = y at hP
  obtain ⟨yO, y4, -, y10, yL⟩ := hP
  obtain ⟨zO, z10, zL⟩ := hoh_P (y := y) air (yO 14 (by decide) (by decide) (by decide)) (yO 16 (by decide) (by decide) (by decide)) hok hr _ (Nat.le_refl _)
  generalize it (hohF air) y (nt x 13 0) = z at zO z10 zL
  have hb13 : nt x 13 0 < 11 := hok.h13.2
  refine ⟨fun f fd => ?_, ?_⟩
  · have f12 : f ≠ 12 := fun e => by rw [e] at fd; cases fd
    funext j
    by_cases h4 : f = 4
    · rw [h4, c4, zO 4 (by decide), y4]
    · by_cases h10 : f = 10
      · rw [h10, c10, z10, y10]
        by_cases hj : j < 5 * 25
        · rw [if_pos hj, if_pos hj, hcW_add]
          by_cases h5 : j = 5 * (j / 5)
          · have e := oNN_led hr air (c := j / 5) (by omega)
            rw [← h5] at e
            rw [if_pos h5, e]
          · rw [if_neg h5]
            have e : oNN x air (nt x 13 0) j = 0 := if_neg (fun q => h5 (by have := q.1; omega))
            rw [e]
        · rw [if_neg hj, if_neg hj]
          have e : oNN x air (nt x 13 0) j = 0 := if_neg (fun q => hj (by have := q.2.1; omega))
          rw [e, Int32.add_zero]
      · rw [cO f h4 h10, zO f h10, yO f h4 h10 f12]
  · funext f
    rw [cL, zL]
    by_cases h26 : f = 26
    · rw [if_pos h26, if_pos h26, yL, if_pos rfl, Int64.add_assoc, ← sumL_add]
      congr 1
      refine sumL_congr 25 (fun c hc => ?_)
      rw [oNN_led hr air hc]
      exact lead_l hok hf ha1 ha2 hc
    · rw [if_neg h26, if_neg h26, yL, if_neg h26]
