/-! PLAIN LAWS: flow, crack, live, stand, read -/
set_option maxRecDepth 100000
theorem i32_sub3 (a b c d : Int32) : a + b - c - d = a + b - (c + d) := by
  rw [Int32.sub_eq_add_neg, Int32.sub_eq_add_neg, Int32.sub_eq_add_neg, Int32.neg_add, Int32.sub_eq_add_neg, Int32.add_assoc (a + b)]
theorem i32_lt2 (v : Int32) : 2 ≤ v ↔ ¬ v ≤ 1 := by
  rw [Int32.le_iff_toInt_le, Int32.le_iff_toInt_le, show (2 : Int32).toInt = 2 from rfl, show (1 : Int32).toInt = 1 from rfl]
  omega
theorem sI_id (x : St) (f k : Nat) {v : Int32} (h : v = x.1 f k) : sI x f k v = x := by
  refine Prod.ext ?_ rfl
  funext a b
  show (sI x f k v).1 a b = x.1 a b
  rw [sI_1]
  by_cases q : a = f ∧ b = k
  · rw [if_pos q, h, q.1, q.2]
  · rw [if_neg q]
theorem sL_id (x : St) (f : Nat) {v : Int64} (h : v = x.2 f) : sL x f v = x := by
  refine Prod.ext rfl ?_
  funext a
  show (sL x f v).2 a = x.2 a
  rw [sL_2]
  by_cases q : a = f
  · rw [if_pos q, h, q]
  · rw [if_neg q]
theorem nI_cl {n : Nat} (h : n < 1000) : (nI n).toNatClampNeg = n := nI_clamp (by omega)
/-- where the water flows to: both find the same cell -/
theorem cfw_bst (x : St) {k : Nat} (hk : k < 25) : cfwL x k < 25 ∧ cfwL x k ≠ k ∧ bstF x k 4 = nI (cfwL x k) := by
  have key : ∀ n, n ≤ 4 → (it (fun s d => if onR k d = 0 then s else cfwS x k (nbN k d) s) k n = k ∧ bstF x k n = (-1) ∧ ∀ d, d < n → onR k d = 0) ∨ (it (fun s d => if onR k d = 0 then s else cfwS x k (nbN k d) s) k n ≠ k ∧ it (fun s d => if onR k d = 0 then s else cfwS x k (nbN k d) s) k n < 25 ∧ bstF x k n = nI (it (fun s d => if onR k d = 0 then s else cfwS x k (nbN k d) s) k n)) := by
    intro n
    induction n with
    | zero => intro _; exact Or.inl ⟨it_zero _ _, it_zero _ _, fun d hd => absurd hd (Nat.not_lt_zero d)⟩
    | succ n ih =>
      intro hn
      have ihn := ih (by omega)
      have eb : bstF x k (n + 1) = floB x (bstF x k n) (besR (nI k) (nI n)) := it_succ _ _ _
      rw [eb, it_succ]
      generalize it (fun s d => if onR k d = 0 then s else cfwS x k (nbN k d) s) k n = b at ihn
      generalize bstF x k n = v at ihn
      rcases nb_key k hk n (by omega) with ⟨h1, h2⟩ | ⟨h1, h2, h3, h4, h5⟩
      · have e : floB x v (besR (nI k) (nI n)) = v := by
          unfold floB floT
          rw [if_pos h2, if_pos rfl]
        rw [e, if_pos h1]
        rcases ihn with ⟨a, b2, c⟩ | ⟨a, b2, c⟩
        · refine Or.inl ⟨a, b2, fun d hd => ?_⟩
          by_cases hdn : d = n
          · rw [hdn]; exact h1
          · exact c d (by omega)
        · exact Or.inr ⟨a, b2, c⟩
      · rw [if_neg h1]
        refine Or.inr ?_
        rcases ihn with ⟨a, b2, c⟩ | ⟨a, b2, c⟩
        · have e : floB x v (besR (nI k) (nI n)) = nI (nbN k n) := by
            unfold floB floT
            rw [if_neg h5, if_pos b2, if_neg (by decide), h2]
          have e2 : cfwS x k (nbN k n) b = nbN k n := by
            unfold cfwS
            rw [if_pos a]
          rw [e, e2]
          exact ⟨h4, h3, rfl⟩
        · have hv : ¬ v = (-1) := by rw [c]; exact nI_m1 b b2
          have e : floB x v (besR (nI k) (nI n)) = if x.1 2 b + x.1 3 b ≤ x.1 2 (nbN k n) + x.1 3 (nbN k n) then nI b else nI (nbN k n) := by
            unfold floB floT levF
            rw [if_neg h5, if_neg hv, h2, c, nI_cl (by omega), nI_cl (by omega)]
            by_cases hq : x.1 2 b + x.1 3 b ≤ x.1 2 (nbN k n) + x.1 3 (nbN k n)
            · rw [if_pos hq, if_pos rfl, if_pos hq]
            · rw [if_neg hq, if_neg (by decide), if_neg hq]
          have e2 : cfwS x k (nbN k n) b = if x.1 2 b + x.1 3 b ≤ x.1 2 (nbN k n) + x.1 3 (nbN k n) then b else nbN k n := by
            unfold cfwS
            rw [if_neg a]
          rw [e, e2]
          by_cases hq : x.1 2 b + x.1 3 b ≤ x.1 2 (nbN k n) + x.1 3 (nbN k n)
          · rw [if_pos hq, if_pos hq]; exact ⟨a, b2, rfl⟩
          · rw [if_neg hq, if_neg hq]; exact ⟨h4, h3, rfl⟩
  have e : cfwL x k = it (fun s d => if onR k d = 0 then s else cfwS x k (nbN k d) s) k 4 := nb_fold k (cfwS x k) k
  rw [e]
  rcases key 4 (by decide) with ⟨a, b, c⟩ | ⟨a, b, c⟩
  · obtain ⟨d, hd, hq⟩ := nb_some k hk
    exact absurd (c d hd) hq
  · exact ⟨b, a, c⟩
theorem cfw_flo (x : St) {k : Nat} (hk : k < 25) : cfwF x k = floF x k := by
  obtain ⟨h1, h2, h3⟩ := cfw_bst x hk
  have ec : (bstF x k 4).toNatClampNeg = cfwL x k := by rw [h3]; exact nI_cl (by omega)
  have eo : x.1 2 k + x.1 3 k - x.1 2 (cfwL x k) - x.1 3 (cfwL x k) = cfwO x k := i32_sub3 _ _ _ _
  have ea : cfwA x k = if cfwO x k ≤ 1 then 0 else lesF (x.1 3 k) (cfwO x k / 2) := by
    unfold cfwA
    by_cases h : cfwO x k ≤ 1
    · rw [if_pos h, if_neg (fun y => (i32_lt2 _).mp y h)]
    · rw [if_neg h, if_pos ((i32_lt2 _).mpr h), jmin_les]
  unfold floF cfwF
  rw [ec, eo, ea]
  by_cases h : cfwO x k ≤ 1
  · rw [if_pos h, if_pos h, sI_id x 3 k (by rw [Int32.sub_zero]), sI_id x 3 (cfwL x k) (by rw [Int32.add_zero])]
  · rw [if_neg h, if_neg h]
theorem cfw_floL (x : St) : ∀ n, n ≤ 25 → it cfwF x n = it floF x n := by
  intro n
  induction n with
  | zero => intro _; exact (it_zero _ _).trans (it_zero _ _).symm
  | succ n ih =>
    intro hn
    rw [it_succ, it_succ, ih (by omega), cfw_flo _ (by omega)]
/-! the coldest -/
theorem ccl_cld (x : St) : ∀ n, cclN x (n + 1) = cldN x n := by
  intro n
  induction n with
  | zero =>
    rw [cclN_s]
    have e : cclN x 0 = 0 := it_zero _ _
    have e2 : cldN x 0 = 0 := it_zero _ _
    rw [e, e2]
    split <;> rfl
  | succ n ih =>
    have e2 : cldN x (n + 1) = if degF x (5 * cldN x n + 1) ≤ degF x (5 * (n + 1) + 1) then cldN x n else n + 1 := it_succ _ _ _
    rw [cclN_s, ih, e2, cdeg_deg, cdeg_deg]
theorem ccr_cra (x : St) : (if cdeg x (5 * cclN x 25 + 1) ≤ (-10) then ccrF x (cclN x 25) else x) = craF x := by
  have e : cclN x 25 = cldN x 24 := ccl_cld x 24
  unfold craF
  rw [e, cdeg_deg]
  generalize cldN x 24 = b
  by_cases h : degF x (5 * b + 1) ≤ (-10)
  · rw [if_pos h, if_pos h]
    have ew : ccrW x b = craW x b := rfl
    unfold ccrF
    rw [ew]
    have e3 : (craW x b).1 3 b = x.1 3 b := sI_o (fun q => absurd q.1 (by decide))
    have e9 : (craW x b).1 9 (5 * b + 1) = x.1 9 (5 * b + 1) := sI_o (fun q => absurd q.1 (by decide))
    rw [e3, e9]
    by_cases h3 : x.1 3 b ≤ 0
    · rw [if_pos h3, if_pos h3]
    · rw [if_neg h3, if_neg h3]
      by_cases h9 : 9 ≤ x.1 9 (5 * b + 1)
      · rw [if_pos h9, if_pos h9]
      · rw [if_neg h9, if_neg h9]
        have e99 : (sI (craW x b) 3 b (x.1 3 b - 1)).1 9 (5 * b + 1) = x.1 9 (5 * b + 1) := (sI_o (fun q => absurd q.1 (by decide))).trans e9
        rw [e99, sI_comm _ 10 (5 * b + 1) 2 b _ _ (by decide)]
  · rw [if_neg h, if_neg h]
/-! stand, read -/
theorem cst_til (y : St) (h : Nat) : cstF y h = tilF y h := by
  unfold cstF tilF cthF
  by_cases q : y.1 10 (5 * nt y 14 h + nt y 15 h) < 0
  · rw [if_pos q, if_pos rfl]
  · rw [if_neg q, if_neg (by decide)]
theorem crd_rea (y : St) (b mo : Nat) (h : mo = nt y 1 0) : crdF y b mo = reaB y b := by
  have key : ∀ n, crdL b mo y n = reaI y b n := by
    intro n
    induction n with
    | zero => exact (it_zero _ _).trans (it_zero _ _).symm
    | succ n ih =>
      have e1 : crdL b mo y (n + 1) = crdS b mo (crdL b mo y n) n := it_succ _ _ _
      have hm : nt (reaI y b n) 1 0 = mo := by rw [(kq_reaI y b n).n rfl 0, h]
      rw [e1, reaI_s, ih]
      unfold crdS reaF
      rw [hm, show 3000 * b + (5 * mo + n) = 3000 * b + 5 * mo + n from by omega, cdeg_deg]
      have e : nI mo - (reaI y b n).1 22 b + 1 = nI (mo + 1) - (reaI y b n).1 22 b := by
        rw [nI_succ, Int32.sub_eq_add_neg, Int32.sub_eq_add_neg, Int32.add_assoc, Int32.add_assoc, Int32.add_comm 1]
      rw [e]
  exact key 5
