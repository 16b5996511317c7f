/-! PLAIN LAWS: lakes: what the reference's labels are -/
set_option maxRecDepth 100000
def wet (x : St) (c : Nat) : Prop := ¬ x.1 3 c ≤ 0
def adj (c d : Nat) : Prop := ∃ s, s < 4 ∧ ¬ onR c s = 0 ∧ nbN c s = d
theorem adj_sy0 : ∀ c, c < 25 → ∀ s, s < 4 → ¬ onR c s = 0 → ∃ s2, s2 < 4 ∧ ¬ onR (nbN c s) s2 = 0 ∧ nbN (nbN c s) s2 = c := by decide +kernel
theorem adj_sy {c d : Nat} (hc : c < 25) (h : adj c d) : adj d c := by
  obtain ⟨s, hs, h1, h2⟩ := h
  subst h2
  exact adj_sy0 c hc s hs h1
theorem adj_lt {c d : Nat} (hc : c < 25) (h : adj c d) : d < 25 := by
  obtain ⟨s, hs, h1, h2⟩ := h
  subst h2
  exact (nbN_ok hc hs h1).1
/-- no water flows out of S, nor into it -/
def clS (x : St) (S : Nat → Prop) : Prop := ∀ c d, c < 25 → adj c d → wet x c → wet x d → (S c ↔ S d)
/-- labels under way -/
def LBI (x y : St) : Prop := (∀ f, f ≠ 7 → y.1 f = x.1 f) ∧ y.2 = x.2 ∧ ∀ c, c < 25 → (¬ wet x c → y.1 7 c = (-1)) ∧ (wet x c → ∃ r, y.1 7 c = nI r ∧ r ≤ c ∧ ∀ S, clS x S → (S c ↔ S r))
theorem LBI_0 (x : St) : LBI x (labI x 25) := by
  obtain ⟨h1, h2, h3⟩ := labI_keep x 25
  refine ⟨h1, h2, fun c hc => ?_⟩
  rw [h3 c hc]
  refine ⟨fun h => if_pos (Classical.not_not.mp h), fun h => ⟨c, if_neg h, Nat.le_refl _, fun _ _ => Iff.rfl⟩⟩
theorem LBI_w {x y : St} (h : LBI x y) {c : Nat} (hc : c < 25) (hl : ¬ y.1 7 c = (-1)) : wet x c := by
  by_cases hw : wet x c
  · exact hw
  · exact absurd ((h.2.2 c hc).1 hw) hl
theorem LBI_g {x y : St} (h : LBI x y) {k : Nat} (hk : k < 100) : LBI x (gpX y k) := by
  have hc : k / 4 < 25 := by omega
  have hs : k % 4 < 4 := by omega
  unfold gpX gpN
  by_cases h1 : besR (nI (k / 4)) (nI (k % 4)) = (-1)
  · rw [if_pos h1]; exact h
  rw [if_neg h1]
  rcases nb_key (k / 4) hc (k % 4) hs with ⟨-, q⟩ | ⟨hon, eb, hn, -, -⟩
  · exact absurd q h1
  rw [eb, nI_clamp (by omega)]
  have ha : adj (k / 4) (nbN (k / 4) (k % 4)) := ⟨k % 4, hs, hon, rfl⟩
  generalize nbN (k / 4) (k % 4) = d at hn ha
  generalize k / 4 = c at hc ha
  by_cases h2 : y.1 7 c = (-1)
  · rw [if_pos h2]; exact h
  rw [if_neg h2]
  by_cases h3 : y.1 7 d = (-1)
  · rw [if_pos h3]; exact h
  rw [if_neg h3]
  by_cases h4 : y.1 7 c ≤ y.1 7 d
  · rw [if_pos h4]; exact h
  rw [if_neg h4]
  have wc := LBI_w h hc h2
  have wd := LBI_w h hn h3
  obtain ⟨r, er, hr, -⟩ := (h.2.2 c hc).2 wc
  obtain ⟨r2, er2, hr2, hS2⟩ := (h.2.2 d hn).2 wd
  refine ⟨fun f hf => (sI_ne y 7 c _ hf).trans (h.1 f hf), h.2.1, fun e he => ?_⟩
  rw [sI_1]
  by_cases q : e = c
  · subst q
    rw [if_pos ⟨rfl, rfl⟩]
    refine ⟨fun hw => absurd wc hw, fun _ => ⟨r2, er2, ?_, fun S hS => (hS e d hc ha wc wd).trans (hS2 S hS)⟩⟩
    rw [er, er2] at h4
    have := mt (nI_leI (a := r) (b := r2) (by omega) (by omega)).mpr h4
    omega
  · rw [if_neg (fun z => q z.2)]
    exact h.2.2 e he
theorem LBI_P {x y : St} (h : LBI x y) : LBI x (gpP y) := by
  have key : ∀ k, k ≤ 100 → LBI x (gpL y k).1 := by
    intro k
    induction k with
    | zero => intro _; exact h
    | succ k ih =>
      intro hk
      rw [gpL_1]
      exact LBI_g (ih (by omega)) (by omega)
  exact key 100 (Nat.le_refl _)
theorem LBI_J (x : St) : ∀ j, LBI x (gaJ x j) := by
  intro j
  induction j with
  | zero => rw [gaJ_0]; exact LBI_0 x
  | succ j ih => rw [gaJ_s]; exact LBI_P ih
theorem LBI_F (x : St) : LBI x (gaF x) := LBI_J x 700
/-- at the end nothing moves any more -/
theorem gaF_fix (x : St) : gpP (gaF x) = gaF x := by
  have key : ∀ j, (∃ i, i ≤ j ∧ gpP (gaJ x i) = gaJ x i) ∨ gaM (gaJ x j) + j ≤ 625 := by
    intro j
    induction j with
    | zero => exact Or.inr (gaM_le (gaJ_ok x 0))
    | succ j ih =>
      rcases ih with ⟨i, hi, e⟩ | hm
      · exact Or.inl ⟨i, by omega, e⟩
      · rcases (gp_pass (gaJ_ok x j) 100 (Nat.le_refl _)).2 with ⟨e, -⟩ | ⟨hl, -⟩
        · exact Or.inl ⟨j, by omega, e⟩
        · refine Or.inr ?_
          rw [gaJ_s]
          have h2 : gaM (gpP (gaJ x j)) < gaM (gaJ x j) := hl
          omega
  rcases key 700 with ⟨i, hi, e⟩ | hm
  · have e2 := gaF_of (x := x) (j := i) rfl e hi
    rw [← e2]
    exact e
  · omega
theorem gaF_ok (x : St) : labOk (gaF x) := gaJ_ok x 700
theorem gaF_st (x : St) : ∀ k, k < 100 → gpX (gaF x) k = gaF x := by
  have hok := gaF_ok x
  have hfix : (gpL (gaF x) 100).1 = gaF x := gaF_fix x
  generalize gaF x = y at hok hfix
  have mono : ∀ m k, k + m = 100 → gaM (gpL y 100).1 ≤ gaM (gpL y k).1 := by
    intro m
    induction m with
    | zero => intro k hk; rw [show k = 100 by omega]; exact Nat.le_refl _
    | succ m ih =>
      intro k hk
      have h1 := ih (k + 1) (by omega)
      rw [gpL_1] at h1
      rcases gp_step (gp_pass hok k (by omega)).1 (k := k) (by omega) with ⟨e1, -⟩ | ⟨-, g2, -⟩
      · rw [e1] at h1; exact h1
      · omega
  have same : ∀ k, k ≤ 100 → (gpL y k).1 = y := by
    intro k hk
    rcases (gp_pass hok k hk).2 with ⟨e, -⟩ | ⟨hl, -⟩
    · exact e
    · have h1 := mono (100 - k) k (by omega)
      rw [hfix] at h1
      omega
  intro k hk
  have h1 := same (k + 1) (by omega)
  rw [gpL_1, same k (by omega)] at h1
  exact h1
theorem lab_le (x : St) {c d : Nat} (hc : c < 25) (ha : adj c d) (wc : wet x c) (wd : wet x d) : (gaF x).1 7 c ≤ (gaF x).1 7 d := by
  obtain ⟨s, hs, hon, hd⟩ := ha
  have h := gaF_st x (4 * c + s) (by omega)
  have hd25 : d < 25 := by rw [← hd]; exact (nbN_ok hc hs hon).1
  have hL := LBI_F x
  obtain ⟨r, er, hr, -⟩ := (hL.2.2 c hc).2 wc
  obtain ⟨r2, er2, hr2, -⟩ := (hL.2.2 d hd25).2 wd
  have h2 : ¬ (gaF x).1 7 c = (-1) := by rw [er]; exact nI_m1 r (by omega)
  have h3 : ¬ (gaF x).1 7 d = (-1) := by rw [er2]; exact nI_m1 r2 (by omega)
  generalize gaF x = y at h h2 h3
  unfold gpX gpN at h
  rw [show (4 * c + s) / 4 = c by omega, show (4 * c + s) % 4 = s by omega] at h
  rcases nb_key c hc s hs with ⟨q, -⟩ | ⟨-, eb, hn, -, hne⟩
  · exact absurd q hon
  rw [if_neg hne, eb, nI_clamp (by omega), hd, if_neg h2, if_neg h3] at h
  by_cases h4 : y.1 7 c ≤ y.1 7 d
  · exact h4
  · rw [if_neg h4] at h
    have e : (sI y 7 c (y.1 7 d)).1 7 c = y.1 7 c := by rw [h]
    rw [sI_1, if_pos ⟨rfl, rfl⟩] at e
    rw [e]
    exact Int32.le_refl _
/-- what labels are -/
def LBL (x : St) (r : Nat → Nat) : Prop := (∀ c, c < 25 → wet x c → r c ≤ c ∧ wet x (r c) ∧ r (r c) = r c ∧ ∀ S, clS x S → (S c ↔ S (r c))) ∧ ∀ c d, c < 25 → adj c d → wet x c → wet x d → r c = r d
theorem lab_P (x : St) : LBL x (fun c => nt (gaF x) 7 c) ∧ (∀ c, c < 25 → wet x c → (gaF x).1 7 c = nI (nt (gaF x) 7 c)) ∧ ∀ c, c < 25 → ¬ wet x c → (gaF x).1 7 c = (-1) := by
  have hL := LBI_F x
  have hr : ∀ c, c < 25 → wet x c → (gaF x).1 7 c = nI (nt (gaF x) 7 c) ∧ nt (gaF x) 7 c ≤ c ∧ ∀ S, clS x S → (S c ↔ S (nt (gaF x) 7 c)) := by
    intro c hc hw
    obtain ⟨r, er, h1, h2⟩ := (hL.2.2 c hc).2 hw
    have e : nt (gaF x) 7 c = r := nt_of er (by omega)
    rw [e]
    exact ⟨er, h1, h2⟩
  have h2 : ∀ c d, c < 25 → adj c d → wet x c → wet x d → nt (gaF x) 7 c = nt (gaF x) 7 d := by
    intro c d hc ha wc wd
    have hd := adj_lt hc ha
    have e : (gaF x).1 7 c = (gaF x).1 7 d := Int32.le_antisymm (lab_le x hc ha wc wd) (lab_le x hd (adj_sy hc ha) wd wc)
    unfold nt
    rw [e]
  refine ⟨⟨fun c hc hw => ?_, h2⟩, fun c hc hw => (hr c hc hw).1, fun c hc hw => (hL.2.2 c hc).1 hw⟩
  obtain ⟨a1, a2, a3⟩ := hr c hc hw
  refine ⟨a2, ?_, ?_, a3⟩
  · exact (a3 (wet x) (fun d e _ _ h4 h5 => ⟨fun _ => h5, fun _ => h4⟩)).mp hw
  · exact (a3 (fun e => nt (gaF x) 7 e = nt (gaF x) 7 c) (fun d e h4 h5 h6 h7 => by
      show nt (gaF x) 7 d = _ ↔ nt (gaF x) 7 e = _
      rw [h2 d e h4 h5 h6 h7])).mp rfl
