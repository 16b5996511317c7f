/-! WHAT HOLDS ALL THROUGH: water, claims, what lies beyond the counts; how the steps of a month keep it -/
set_option maxRecDepth 100000
theorem sumN_set {f h : Nat → Nat} {c : Nat} : ∀ n, c < n → (∀ i, i ≠ c → f i = h i) → sumN f n + h c = sumN h n + f c := by
  intro n
  induction n with
  | zero => intro h1; omega
  | succ n ih =>
    intro h1 h2
    show sumN f n + f n + h c = sumN h n + h n + f c
    by_cases e : c = n
    · subst e
      rw [sumN_congr c (fun i hi => h2 i (by omega))]
      omega
    · have := ih (by omega) h2
      have := h2 n (fun q => e q.symm)
      omega
theorem sumN_ge {f : Nat → Nat} {c : Nat} : ∀ n, c < n → f c ≤ sumN f n := by
  intro n
  induction n with
  | zero => intro h1; omega
  | succ n ih =>
    intro h1
    show f c ≤ sumN f n + f n
    by_cases e : c = n
    · subst e
      omega
    · have := ih (by omega)
      omega
def Wt (x : St) : Nat := sumN (fun c => nt x 3 c) 25 + sumN (fun k => nt x 9 k) 125
def WV (n : Nat) (x : St) : Prop := (∀ c, c < 25 → x.1 3 c = nI (nt x 3 c)) ∧ Wt x ≤ n
theorem WV.c {n : Nat} {x : St} (h : WV n x) {c : Nat} (hc : c < 25) : nt x 3 c ≤ n := by
  have h1 : nt x 3 c ≤ sumN (fun c => nt x 3 c) 25 := sumN_ge (f := fun c => nt x 3 c) 25 hc
  have h2 := h.2
  unfold Wt at h2
  omega
theorem Wt_cg {x y : St} (h3 : y.1 3 = x.1 3) (h9 : y.1 9 = x.1 9) : Wt y = Wt x := by
  unfold Wt nt
  rw [h3, h9]
theorem WV_cg {n : Nat} {x y : St} (h3 : y.1 3 = x.1 3) (h9 : y.1 9 = x.1 9) (h : WV n x) : WV n y := by
  obtain ⟨h1, h2⟩ := h
  refine ⟨fun c hc => ?_, by rw [Wt_cg h3 h9]; exact h2⟩
  have := h1 c hc
  unfold nt at this ⊢
  rw [h3]
  exact this
theorem WV.up {n m : Nat} {x : St} (h : WV n x) (hm : n ≤ m) : WV m x := ⟨h.1, Nat.le_trans h.2 hm⟩
theorem nt_of {x : St} {f k n : Nat} (h : x.1 f k = nI n) (hn : n < 2 ^ 31) : nt x f k = n := by
  unfold nt
  rw [h, nI_clamp hn]
theorem sin_W {n : Nat} (hn : n ≤ 1000) {x : St} (hk : LK x) (h : WV n x) {k : Nat} (hk1 : k < 125) : WV n (sinF x k) := by
  obtain ⟨o, eo, ho⟩ := sinG_le (hk k hk1)
  have hb9 : nt x 9 k < 10 := (hk k hk1).2.2
  have hb3 := h.c (c := k / 5) (by omega)
  have h3 := h.1
  have hw := h.2
  have e9 : ∀ j, (sinF x k).1 9 j = if j = k then nI (nt x 9 k - o) else x.1 9 j := by
    intro j
    unfold sinF
    rw [sI_o (fun q => absurd q.1 (by decide)), sI_o (fun q => absurd q.1 (by decide)), sI_o (fun q => absurd q.1 (by decide)), sI_1]
    by_cases e : j = k
    · rw [if_pos ⟨rfl, e⟩, if_pos e, eo, show x.1 9 k = nI (nt x 9 k) from (hk k hk1).2.1, pk_sub ho]
    · rw [if_neg (fun q => e q.2), if_neg e]
  have e3 : ∀ c, (sinF x k).1 3 c = if c = k / 5 then nI (nt x 3 (k / 5) + o) else x.1 3 c := by
    intro c
    unfold sinF
    rw [sI_1]
    by_cases e : c = k / 5
    · rw [if_pos ⟨rfl, e⟩, if_pos e, eo, h3 (k / 5) (by omega), nI_add]
    · rw [if_neg (fun q => e q.2), if_neg e, sI_o (fun q => absurd q.1 (by decide)), sI_o (fun q => absurd q.1 (by decide)), sI_o (fun q => absurd q.1 (by decide))]
  generalize sinF x k = y at e9 e3
  have n9k : nt y 9 k = nt x 9 k - o := nt_of (by rw [e9, if_pos rfl]) (by omega)
  have n9 : ∀ j, j ≠ k → nt y 9 j = nt x 9 j := fun j hj => by unfold nt; rw [e9, if_neg hj]
  have n3k : nt y 3 (k / 5) = nt x 3 (k / 5) + o := nt_of (by rw [e3, if_pos rfl]) (by omega)
  have n3 : ∀ j, j ≠ k / 5 → nt y 3 j = nt x 3 j := fun j hj => by unfold nt; rw [e3, if_neg hj]
  have s9 : sumN (fun j => nt y 9 j) 125 + nt x 9 k = sumN (fun j => nt x 9 j) 125 + nt y 9 k := sumN_set (f := fun j => nt y 9 j) (h := fun j => nt x 9 j) (c := k) 125 hk1 n9
  have s3 : sumN (fun j => nt y 3 j) 25 + nt x 3 (k / 5) = sumN (fun j => nt x 3 j) 25 + nt y 3 (k / 5) := sumN_set (f := fun j => nt y 3 j) (h := fun j => nt x 3 j) (c := k / 5) 25 (by omega) n3
  refine ⟨fun c hc => ?_, ?_⟩
  · by_cases e : c = k / 5
    · rw [e, n3k, e3, if_pos rfl]
    · rw [n3 c e, e3, if_neg e]
      exact h3 c hc
  · unfold Wt at hw ⊢
    omega
theorem flo_W {n : Nat} (hn : n ≤ 1000) {x : St} (h : WV n x) {k : Nat} (hk : k < 25) : WV n (floF x k) := by
  rw [← cfw_flo x hk]
  obtain ⟨h1, h2, -⟩ := cfw_bst x hk
  have h3 := h.1
  have hw := h.2
  have hbk := h.c hk
  have hbL := h.c h1
  have ha : ∃ a, cfwA x k = nI a ∧ a ≤ nt x 3 k := by
    unfold cfwA
    by_cases q : 2 ≤ cfwO x k
    · rw [if_pos q, jmin_les]
      obtain ⟨m, hm, em⟩ := nI_of (x := cfwO x k) (Int32.not_lt.mpr (Int32.le_trans (by decide) q))
      rw [em, show (2 : Int32) = nI 2 from rfl, pk_div hm (by decide) (by decide), h3 k hk]
      unfold lesF
      by_cases h5 : nI (m / 2) ≤ nI (nt x 3 k)
      · rw [if_pos h5]
        exact ⟨_, rfl, (nI_leI (by omega) (by omega)).mp h5⟩
      · rw [if_neg h5]
        exact ⟨_, rfl, Nat.le_refl _⟩
    · exact ⟨0, if_neg q, Nat.zero_le _⟩
  obtain ⟨a, ea, hak⟩ := ha
  obtain ⟨L, eL⟩ : ∃ L, cfwL x k = L := ⟨_, rfl⟩
  rw [eL] at h1 h2 hbL
  have e3 : ∀ c, (cfwF x k).1 3 c = if c = L then nI (nt x 3 L + a) else if c = k then nI (nt x 3 k - a) else x.1 3 c := by
    intro c
    unfold cfwF
    rw [ea, eL, sI_1]
    by_cases e : c = L
    · rw [if_pos ⟨rfl, e⟩, if_pos e, sI_o (fun q => h2 q.2), h3 L h1, nI_add]
    · rw [if_neg (fun q => e q.2), if_neg e, sI_1]
      by_cases e2 : c = k
      · rw [if_pos ⟨rfl, e2⟩, if_pos e2, h3 k hk, pk_sub hak]
      · rw [if_neg (fun q => e2 q.2), if_neg e2]
  have e9 : (cfwF x k).1 9 = x.1 9 := (sI_ne _ 3 _ _ (by decide)).trans (sI_ne _ 3 _ _ (by decide))
  generalize cfwF x k = y at e3 e9
  have nL : nt y 3 L = nt x 3 L + a := nt_of (by rw [e3, if_pos rfl]) (by omega)
  have nk : nt y 3 k = nt x 3 k - a := nt_of (by rw [e3, if_neg (fun q => h2 q.symm), if_pos rfl]) (by omega)
  have no : ∀ j, j ≠ L → j ≠ k → nt y 3 j = nt x 3 j := fun j hj hj2 => by unfold nt; rw [e3, if_neg hj, if_neg hj2]
  have s1 : sumN (fun j => if j = k then nt x 3 k - a else nt x 3 j) 25 + nt x 3 k = sumN (fun j => nt x 3 j) 25 + (if k = k then nt x 3 k - a else nt x 3 k) := sumN_set (f := fun j => if j = k then nt x 3 k - a else nt x 3 j) (h := fun j => nt x 3 j) (c := k) 25 hk (fun i hi => if_neg hi)
  have s2 : sumN (fun j => nt y 3 j) 25 + (if L = k then nt x 3 k - a else nt x 3 L) = sumN (fun j => if j = k then nt x 3 k - a else nt x 3 j) 25 + nt y 3 L := sumN_set (f := fun j => nt y 3 j) (h := fun j => if j = k then nt x 3 k - a else nt x 3 j) (c := L) 25 h1 (fun i hi => by
    show nt y 3 i = if i = k then nt x 3 k - a else nt x 3 i
    by_cases e : i = k
    · rw [if_pos e, e, nk]
    · rw [if_neg e, no i hi e])
  rw [if_pos rfl] at s1
  rw [if_neg h2] at s2
  refine ⟨fun c hc => ?_, ?_⟩
  · by_cases e : c = L
    · rw [e, nL, e3, if_pos rfl]
    · by_cases e2 : c = k
      · rw [e2, nk, e3, if_neg (fun q => h2 q.symm), if_pos rfl]
      · rw [no c e e2, e3, if_neg e, if_neg e2]
        exact h3 c hc
  · have e99 : sumN (fun k => nt y 9 k) 125 = sumN (fun k => nt x 9 k) 125 := by unfold nt; rw [e9]
    unfold Wt at hw ⊢
    rw [e99]
    omega
theorem cra_LW {n : Nat} (hn : n ≤ 1000) {x : St} (hk : LK x) (h : WV n x) : LK (craF x) ∧ WV n (craF x) := by
  unfold craF
  have hb := cldN_le x 24
  generalize cldN x 24 = b at hb
  by_cases h1 : degF x (5 * b + 1) ≤ (-10)
  · rw [if_pos h1]
    have w0 : LK (craW x b) ∧ WV n (craW x b) := ⟨LK_cg (sI_ne x 6 b _ (by decide)) (sI_ne x 6 b _ (by decide)) hk, WV_cg (sI_ne x 6 b _ (by decide)) (sI_ne x 6 b _ (by decide)) h⟩
    by_cases h2 : x.1 3 b ≤ 0
    · rw [if_pos h2]; exact w0
    rw [if_neg h2]
    by_cases h4 : 9 ≤ x.1 9 (5 * b + 1)
    · rw [if_pos h4]; exact w0
    rw [if_neg h4]
    have h3 := h.1
    have hw := h.2
    have hbk := h.c (c := b) (by omega)
    have e3b := h3 b (by omega)
    have q9 := (hk (5 * b + 1) (by omega)).2
    have hw1 : 1 ≤ nt x 3 b := by
      rw [e3b] at h2
      have := mt (nI_leI (a := nt x 3 b) (b := 0) (by omega) (by decide)).mpr h2
      omega
    have hx9 : nt x 9 (5 * b + 1) < 9 := by
      have e : x.1 9 (5 * b + 1) = nI (nt x 9 (5 * b + 1)) := q9.1
      rw [e] at h4
      have := mt (nI_leI (a := 9) (b := nt x 9 (5 * b + 1)) (by decide) (by have := q9.2; unfold nt; omega)).mpr h4
      omega
    obtain ⟨y, ey⟩ : ∃ y, sI (sI (sI (sI (craW x b) 3 b (x.1 3 b - 1)) 9 (5 * b + 1) (x.1 9 (5 * b + 1) + 1)) 2 b (x.1 2 b + 1)) 10 (5 * b + 1) (x.1 10 (5 * b + 1) + 1000) = y := ⟨_, rfl⟩
    have e3 : ∀ c, y.1 3 c = if c = b then nI (nt x 3 b - 1) else x.1 3 c := by
      intro c
      rw [← ey, sI_o (fun q => absurd q.1 (by decide)), sI_o (fun q => absurd q.1 (by decide)), sI_o (fun q => absurd q.1 (by decide)), sI_1]
      by_cases e : c = b
      · rw [if_pos ⟨rfl, e⟩, if_pos e, e3b, show (1 : Int32) = nI 1 from rfl, pk_sub hw1]
      · rw [if_neg (fun q => e q.2), if_neg e]
        exact sI_o (fun q => absurd q.1 (by decide))
    have e9 : ∀ j, y.1 9 j = if j = 5 * b + 1 then nI (nt x 9 (5 * b + 1) + 1) else x.1 9 j := by
      intro j
      rw [← ey, sI_o (fun q => absurd q.1 (by decide)), sI_o (fun q => absurd q.1 (by decide)), sI_1]
      by_cases e : j = 5 * b + 1
      · rw [if_pos ⟨rfl, e⟩, if_pos e, show x.1 9 (5 * b + 1) = nI (nt x 9 (5 * b + 1)) from q9.1, nI_1]
      · rw [if_neg (fun q => e q.2), if_neg e, sI_o (fun q => absurd q.1 (by decide))]
        exact sI_o (fun q => absurd q.1 (by decide))
    have e8 : y.1 8 = x.1 8 := by
      rw [← ey, sI_ne _ _ _ _ (by decide), sI_ne _ _ _ _ (by decide), sI_ne _ _ _ _ (by decide), sI_ne _ _ _ _ (by decide)]
      exact sI_ne _ _ _ _ (by decide)
    rw [ey]
    have n9k : nt y 9 (5 * b + 1) = nt x 9 (5 * b + 1) + 1 := nt_of (by rw [e9, if_pos rfl]) (by omega)
    have n9 : ∀ j, j ≠ 5 * b + 1 → nt y 9 j = nt x 9 j := fun j hj => by unfold nt; rw [e9, if_neg hj]
    have n3k : nt y 3 b = nt x 3 b - 1 := nt_of (by rw [e3, if_pos rfl]) (by omega)
    have n3 : ∀ j, j ≠ b → nt y 3 j = nt x 3 j := fun j hj => by unfold nt; rw [e3, if_neg hj]
    have s9 : sumN (fun j => nt y 9 j) 125 + nt x 9 (5 * b + 1) = sumN (fun j => nt x 9 j) 125 + nt y 9 (5 * b + 1) := sumN_set (f := fun j => nt y 9 j) (h := fun j => nt x 9 j) (c := 5 * b + 1) 125 (by omega) n9
    have s3 : sumN (fun j => nt y 3 j) 25 + nt x 3 b = sumN (fun j => nt x 3 j) 25 + nt y 3 b := sumN_set (f := fun j => nt y 3 j) (h := fun j => nt x 3 j) (c := b) 25 (by omega) n3
    refine ⟨fun k hk1 => ?_, fun c hc => ?_, ?_⟩
    · obtain ⟨k1, k2⟩ := hk k hk1
      refine ⟨by rw [e8]; exact k1, ?_⟩
      rw [e9]
      by_cases e : k = 5 * b + 1
      · rw [if_pos e]
        exact okN_nI (by omega) (by decide)
      · rw [if_neg e]; exact k2
    · by_cases e : c = b
      · rw [e, n3k, e3, if_pos rfl]
      · rw [n3 c e, e3, if_neg e]
        exact h3 c hc
    · unfold Wt at hw ⊢
      omega
  · rw [if_neg h1]
    exact ⟨hk, h⟩
/-- a month keeps layers and water -/
theorem cp4_LW {n : Nat} (hn : n ≤ 1000) {x : St} {air fall : Int32} (hk : LK x) (h : WV n x) : LK (cp4 x air fall) ∧ WV n (cp4 x air fall) := by
  have hc := (cp1_P x air fall 25 (Nat.le_refl _)).1
  have hk1 : LK (cp1 x air fall 25) := LK_cg (hc 8 (by decide) (by decide)) (hc 9 (by decide) (by decide)) hk
  have hw1 : WV n (cp1 x air fall 25) := WV_cg (hc 3 (by decide) (by decide)) (hc 9 (by decide) (by decide)) h
  have hs : ∀ i, i ≤ 125 → WV n (it sinF (cp1 x air fall 25) i) := by
    intro i
    induction i with
    | zero => intro _; exact hw1
    | succ i ih =>
      intro hi
      rw [it_succ]
      exact sin_W hn (layK_sinL hk1 i (by omega)) (ih (by omega)) (by omega)
  have hs2 := hs 125 (Nat.le_refl _)
  obtain ⟨e2, k2⟩ := cp2_sin (air := air) (fall := fall) hk
  rw [← e2] at hs2
  have hf : ∀ i, i ≤ 25 → LK (it floF (cp2 x air fall 25) i) ∧ WV n (it floF (cp2 x air fall 25) i) := by
    intro i
    induction i with
    | zero => intro _; exact ⟨k2, hs2⟩
    | succ i ih =>
      intro hi
      obtain ⟨a, b⟩ := ih (by omega)
      rw [it_succ]
      have ho : ko [3] (it floF (cp2 x air fall 25) i) (floF (it floF (cp2 x air fall 25) i) i) := ko_if (ko.rf _) ((ko_sI (by decide)).tr (ko_sI (by decide)))
      exact ⟨LK_cg (ho 8 (by decide)) (ho 9 (by decide)) a, flo_W hn b (by omega)⟩
  obtain ⟨a, b⟩ := hf 25 (Nat.le_refl _)
  rw [cp4_cra]
  by_cases ha : (-20) < air
  · rw [if_pos ha]; exact ⟨a, b⟩
  · rw [if_neg ha]; exact cra_LW hn a b
