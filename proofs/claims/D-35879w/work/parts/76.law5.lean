/-! PLAIN LAWS: what wakes in a layer -/
set_option maxRecDepth 100000
theorem wakL_e (x : St) (c k : Nat) : wakL x c k = if degF x k ≤ 0 then x else if lakF x c = 0 then sL (sI x 11 k (x.1 11 k - wokF x k)) 30 (x.2 30 + (wokF x k).toInt64) else sL (sI x 11 k (x.1 11 k - wokF x k)) 31 (x.2 31 + (wokF x k).toInt64) := by
  unfold wakL
  by_cases h : degF x k ≤ 0
  · rw [if_pos h, if_pos h]
  rw [if_neg h, if_neg h]
  have e1 : lakF (sI x 11 k (x.1 11 k - wokF x k)) c = lakF x c := by
    unfold lakF
    rw [sI_o (fun q => absurd q.1 (by decide))]
  have e2 : ∀ (y : St) (f : Nat) (v : Int64), lakF (sL y f v) c = lakF y c := fun _ _ _ => rfl
  rw [e2, e1]
  by_cases hk : lakF x c = 0
  · simp only [if_pos hk]
    have z1 : sL (sI x 11 k (x.1 11 k - wokF x k)) 31 ((sI x 11 k (x.1 11 k - wokF x k)).2 31 + 0) = sI x 11 k (x.1 11 k - wokF x k) := sL_id _ 31 (Int64.add_zero _)
    rw [z1]
    rfl
  · simp only [if_neg hk]
    exact sL_id _ 30 (Int64.add_zero _)
theorem wok_P {x : St} {k : Nat} (h : okN (x.1 11 k) 3000) (hd : ¬ degF x k ≤ 0) : cwkG x k = wokF x k ∧ ∃ w, wokF x k = nI w ∧ w ≤ nt x 11 k := by
  obtain ⟨e, b⟩ := h
  have hdb := degF_bd x k
  have hd1 : 0 < (degF x k).toInt := by
    rw [Int32.le_iff_toInt_le] at hd
    have : (0 : Int32).toInt = 0 := rfl
    omega
  obtain ⟨n, en⟩ : ∃ n, (x.1 11 k).toNatClampNeg = n := ⟨_, rfl⟩
  rw [en] at e b
  have ec : (x.1 11 k).toInt = n := by rw [e, nI_toInt (by omega)]
  have hm := mul_bd (degF x k).toInt 21474837 (by omega) hdb.2 (by decide) n
  obtain ⟨D, eD⟩ : ∃ D, (degF x k).toInt = D := ⟨_, rfl⟩
  have hp0 : 0 ≤ (n : Int) * D := Int.mul_nonneg (by omega) (by omega)
  have hn2 : (n : Int) * 21474837 ≤ 3000 * 21474837 := by omega
  obtain ⟨P, hP⟩ : ∃ P, (degF x k).toInt64 * (x.1 11 k).toInt64 / 1000 = P := ⟨_, rfl⟩
  have ePm : ((degF x k).toInt64 * (x.1 11 k).toInt64).toInt = (n : Int) * D := by
    rw [eD] at hm
    rw [Int64.toInt_mul, Int32.toInt_toInt64, Int32.toInt_toInt64, ec, eD, Int.mul_comm]
    exact bm64 (by omega) (by omega)
  have eP : P.toInt = (n : Int) * D / 1000 := by
    rw [← hP, Int64.toInt_div_of_ne_right _ _ (by decide), ePm, show (1000 : Int64).toInt = 1000 from rfl, Int.tdiv_eq_ediv_of_nonneg hp0]
  rw [eD] at hm
  have hPb : 0 ≤ P.toInt ∧ P.toInt < 2147483648 := by
    rw [eP]
    omega
  have e32 : P.toInt32.toInt = P.toInt := by
    rw [Int64.toInt_toInt32]
    exact bm32 (by omega) (by omega)
  have ecc : (x.1 11 k).toInt64.toInt32 = x.1 11 k := by
    apply Int32.toInt_inj.1
    rw [Int64.toInt_toInt32, Int32.toInt_toInt64]
    exact bm32 (i32_rng _).1 (i32_rng _).2
  have hdeg : 0 < cdeg x k := by
    rw [cdeg_deg, Int32.lt_iff_toInt_lt]
    exact hd1
  unfold cwkG wokF
  rw [if_pos hdeg, cdeg_deg, hP]
  unfold jminL lesF
  by_cases hlt : P < (x.1 11 k).toInt64
  · have h1 : ¬ x.1 11 k ≤ P.toInt32 := by
      rw [Int32.le_iff_toInt_le, e32]
      rw [Int64.lt_iff_toInt_lt, Int32.toInt_toInt64] at hlt
      omega
    rw [if_pos ((lg_cmp_gt _ _).mpr hlt), if_neg h1]
    refine ⟨rfl, ?_⟩
    have h0 : ¬ P.toInt32 < 0 := by
      rw [Int32.lt_iff_toInt_lt, e32, show (0 : Int32).toInt = 0 from rfl]
      omega
    obtain ⟨w, hw, ew⟩ := nI_of h0
    refine ⟨w, ew, ?_⟩
    have h2 : P.toInt32.toInt = w := by rw [ew, nI_toInt hw]
    rw [Int64.lt_iff_toInt_lt, Int32.toInt_toInt64, ec] at hlt
    show w ≤ (x.1 11 k).toNatClampNeg
    omega
  · have h1 : x.1 11 k ≤ P.toInt32 := by
      rw [Int32.le_iff_toInt_le, e32]
      rw [Int64.lt_iff_toInt_lt, Int32.toInt_toInt64] at hlt
      omega
    rw [if_neg (fun z => hlt ((lg_cmp_gt _ _).mp z)), if_pos h1, ecc]
    exact ⟨rfl, n, e, by show n ≤ (x.1 11 k).toNatClampNeg; omega⟩
theorem okN_le {v : Int32} {n m : Nat} (h : okN v n) (hm : n ≤ m) : okN v m := ⟨h.1, by have := h.2; omega⟩
/-- a layer: both do the same; what it leaves -/
theorem wakL_P {y : St} {k p : Nat} (h : okN (y.1 11 p) 3000) : cliS (cliI y k) k y (p - 5 * k) = cliS (cliI y k) k y (p - 5 * k) ∧ (∀ f, f ≠ 11 → (wakL y k p).1 f = y.1 f) ∧ (∀ j, j ≠ p → (wakL y k p).1 11 j = y.1 11 j) ∧ (∀ B, okN (y.1 11 p) B → okN ((wakL y k p).1 11 p) B) := by
  refine ⟨rfl, ?_⟩
  rw [wakL_e]
  by_cases hd : degF y p ≤ 0
  · rw [if_pos hd]
    exact ⟨fun _ _ => rfl, fun _ _ => rfl, fun _ h => h⟩
  rw [if_neg hd]
  obtain ⟨-, w, ew, hw⟩ := wok_P h hd
  have hs : (∀ f, f ≠ 11 → (sI y 11 p (y.1 11 p - wokF y p)).1 f = y.1 f) ∧ (∀ j, j ≠ p → (sI y 11 p (y.1 11 p - wokF y p)).1 11 j = y.1 11 j) ∧ (∀ B, okN (y.1 11 p) B → okN ((sI y 11 p (y.1 11 p - wokF y p)).1 11 p) B) := by
    refine ⟨fun f hf => sI_ne y 11 p _ hf, fun j hj => sI_o (fun q => hj q.2), fun B hB => ?_⟩
    obtain ⟨e, b⟩ := hB
    have hB2 := h.2
    rw [sI_1, if_pos ⟨rfl, rfl⟩, ew, e, pk_sub hw]
    refine ⟨by rw [nI_clamp (by omega)], by rw [nI_clamp (by omega)]; omega⟩
  by_cases hk : lakF y k = 0
  · rw [if_pos hk]; exact hs
  · rw [if_neg hk]; exact hs
theorem cliS_wak {y y0 : St} {k i : Nat} (h3 : y.1 3 = y0.1 3) (h : okN (y.1 11 (5 * k + i)) 3000) : cliS (cliI y0 k) k y i = wakL y k (5 * k + i) := by
  have hl : lakF y0 k = lakF y k := by
    unfold lakF
    rw [h3]
  rw [wakL_e]
  unfold cliS cwkF
  by_cases hd : degF y (5 * k + i) ≤ 0
  · have e : cwkG y (5 * k + i) = 0 := by
      unfold cwkG
      rw [cdeg_deg, if_neg (fun z => absurd (Int32.lt_of_lt_of_le z hd) (Int32.lt_irrefl 0))]
    rw [if_pos hd, e, sI_id y 11 _ (Int32.sub_zero _)]
    exact sL_id y _ (Int64.add_zero _)
  · rw [if_neg hd, (wok_P h hd).1]
    unfold cliI
    rw [clk_lak, hl]
    by_cases hk : lakF y k = 0
    · rw [if_pos hk, if_pos hk]
    · rw [if_neg hk, if_neg hk]
theorem cli_L {y : St} {k : Nat} (hc : ∀ l, l < 5 → okN (y.1 11 (5 * k + l)) 3000) : ∀ i, i ≤ 5 → cliL (cliI y k) k y i = wakM y k i ∧ (∀ f, f ≠ 11 → (wakM y k i).1 f = y.1 f) ∧ (∀ j, ¬ (5 * k ≤ j ∧ j < 5 * k + i) → (wakM y k i).1 11 j = y.1 11 j) ∧ (∀ j B, okN (y.1 11 j) B → okN ((wakM y k i).1 11 j) B) := by
  intro i
  induction i with
  | zero => intro _; exact ⟨(it_zero _ _).trans (it_zero _ _).symm, fun _ _ => rfl, fun _ _ => rfl, fun _ _ h => h⟩
  | succ i ih =>
    intro hi
    obtain ⟨h1, hO, h11, hB⟩ := ih (by omega)
    have es : wakM y k (i + 1) = wakL (wakM y k i) k (5 * k + i) := it_succ _ _ _
    rw [cliL_s, h1, es]
    generalize wakM y k i = z at hO h11 hB
    have hz : okN (z.1 11 (5 * k + i)) 3000 := hB _ _ (hc i (by omega))
    obtain ⟨-, p1, p2, p3⟩ := wakL_P (k := k) hz
    refine ⟨cliS_wak (hO 3 (by decide)) hz, fun f hf => (p1 f hf).trans (hO f hf), fun j hj => ?_, fun j B hb => ?_⟩
    · rw [p2 j (by omega)]
      exact h11 j (by omega)
    · by_cases e : j = 5 * k + i
      · rw [e]
        exact p3 B (hB _ _ (by rw [← e]; exact hb))
      · rw [p2 j e]
        exact hB j B hb
/-- a cell -/
theorem cli_wak {y : St} {k : Nat} {air : Int32} (hc : ∀ l, l < 5 → okN (y.1 11 (5 * k + l)) 3000) (h5 : okN (y.1 5 k) 4) : cliF y k air = wakF y k air ∧ (∀ f, f ≠ 11 → (wakF y k air).1 f = y.1 f) ∧ (∀ j, ¬ (5 * k ≤ j ∧ j < 5 * k + 5) → (wakF y k air).1 11 j = y.1 11 j) ∧ (∀ j B, B ≤ 3000 → okN (y.1 11 j) B → okN ((wakF y k air).1 11 j) (B + 3)) := by
  obtain ⟨h1, hO, h11, hB⟩ := cli_L hc 5 (Nat.le_refl _)
  unfold cliF wakF cliE
  rw [h1]
  generalize wakM y k 5 = z at hO h11 hB
  by_cases ha : air ≤ 0
  · rw [if_pos ha, if_pos ha]
    exact ⟨rfl, hO, h11, fun j B _ hb => okN_le (hB j B hb) (by omega)⟩
  rw [if_neg ha, if_neg ha, clk_lak]
  by_cases hk : lakF z k = 0
  · rw [if_pos hk, if_pos hk]
    refine ⟨rfl, fun f hf => (sI_ne _ 11 _ _ hf).trans (hO f hf), fun j hj => (sI_o (fun q => hj (by have := q.2; omega))).trans (h11 j hj), fun j B hB3 hb => ?_⟩
    rw [sI_1]
    by_cases e : j = 5 * k
    · rw [if_pos ⟨rfl, e⟩]
      obtain ⟨a1, b1⟩ := hB j B hb
      obtain ⟨a2, b2⟩ := h5
      rw [sL_1, sL_1, hO 5 (by decide), ← e, a1, a2, nI_add]
      exact okN_nI (by omega) (by omega)
    · rw [if_neg (fun q => e q.2)]
      exact okN_le (hB j B hb) (by omega)
  · rw [if_neg hk, if_neg hk]
    exact ⟨rfl, hO, h11, fun j B _ hb => okN_le (hB j B hb) (by omega)⟩
theorem cli_wakL {y : St} {B : Nat} {air : Int32} (hB3 : B ≤ 2990) (hc : ∀ j, j < 125 → okN (y.1 11 j) B) (hm : ∀ c, c < 25 → okN (y.1 5 c) 4) : ∀ i, i ≤ 25 → it (fun y c => cliF y c air) y i = it (fun y c => wakF y c air) y i ∧ (∀ f, f ≠ 11 → (it (fun y c => wakF y c air) y i).1 f = y.1 f) ∧ (∀ j, 5 * i ≤ j → (it (fun y c => wakF y c air) y i).1 11 j = y.1 11 j) ∧ (∀ j, j < 125 → okN ((it (fun y c => wakF y c air) y i).1 11 j) (B + 3)) := by
  intro i
  induction i with
  | zero => intro _; exact ⟨(it_zero _ _).trans (it_zero _ _).symm, fun _ _ => rfl, fun _ _ => rfl, fun j hj => okN_le (hc j hj) (by omega)⟩
  | succ i ih =>
    intro hi
    obtain ⟨h1, hO, h11, hB⟩ := ih (by omega)
    rw [it_succ, it_succ, h1]
    generalize it (fun y c => wakF y c air) y i = z at hO h11 hB
    obtain ⟨p1, p2, p3, p4⟩ := cli_wak (y := z) (k := i) (air := air) (fun l hl => okN_le (hB _ (by omega)) (by omega)) (by rw [hO 5 (by decide)]; exact hm i (by omega))
    refine ⟨p1, fun f hf => (p2 f hf).trans (hO f hf), fun j hj => (p3 j (by omega)).trans (h11 j (by omega)), fun j hj => ?_⟩
    by_cases e : 5 * i ≤ j ∧ j < 5 * i + 5
    · refine p4 j B (by omega) ?_
      rw [h11 j e.1]
      exact hc j hj
    · rw [p3 j e]
      exact hB j hj
