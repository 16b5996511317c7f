/-! the land is made -/
set_option maxRecDepth 100000
theorem arrV_ext {cI : ClassId} {N : Nat} {f h : Nat → Value} (e : ∀ j, j < N → f j = h j) : arrV cI N f = arrV cI N h := by
  unfold arrV
  rw [show (fun j : Fin N => f j.val) = fun j => h j.val from funext (fun j => e j.val j.isLt)]
theorem va_refs {D : va_G} {H : Heap} {a : Nat} {cA : ClassId} {N : Nat} {f h : Nat → Option Nat} (e : ∀ j, j < N → f j = h j) (hq : va_at D clW (a, .inl (cA, N, .inr (.inr (.inr (.inr f))))) H) : va_at D clW (a, .inl (cA, N, .inr (.inr (.inr (.inr h))))) H := by
  have h1 : H[a]? = some (arrV cA N (fun j => va_rf (f j))) := hq
  show H[a]? = some (arrV cA N (fun j => va_rf (h j)))
  rw [h1, arrV_ext (fun j hj => by rw [e j hj])]
/-- entries may be told otherwise that say the same -/
theorem mW.ext {D : va_G} {A : Nat → Prop} {M M' : MM} {H : Heap} (h : mW D A M H) (hs : ∀ (k n : Nat) (q : Nat × va_E), M' k n = some q → ∃ q0, M k n = some q0 ∧ q0.1 = q.1 ∧ (va_at D clW q0 H → va_at D clW q H)) : mW D A M' H := by
  refine ⟨fun k n q hq => ?_, fun k n j i x y hx hy e => ?_⟩
  · obtain ⟨q0, h1, h2, h3⟩ := hs k n q hq
    exact ⟨h3 (h.at h1), by rw [← h2]; exact h.inA h1⟩
  · obtain ⟨x0, h1, h2, -⟩ := hs k n x hx
    obtain ⟨y0, h3, h4, -⟩ := hs j i y hy
    exact h.2 k n j i x0 y0 h1 h3 (h2.trans (e.trans h4.symm))
def ck9 (k : Nat) : Int32 := if k % 5 = 0 then 0 else if k % 5 = 1 then 2 else if k % 5 = 2 then 3 else if k % 5 = 3 then 2 else 0
def cK0 : St := (fun f k => if f = 2 then 100 else if f = 5 then 2 else if f = 8 then 5 else if f = 9 then ck9 k else if f = 10 then (-1000) else if f = 11 then 400 else if f = 52 then (-1) else 0, fun _ => 0)
def cKG (x : St) : St := sL (sL (sL x 26 (cilF x 0)) 27 (cilF (sL x 26 (cilF x 0)) 1)) 28 (cilF (sL (sL x 26 (cilF x 0)) 27 (cilF (sL x 26 (cilF x 0)) 1)) 2)
/-- the land with so many cells -/
def cwP (g : GG) (ad : Nat → Nat → Nat) (i : Nat) : MM := fun j k =>
  if j = 1 ∧ k = 0 then some (ad 1 0, .inl (g.2.1 3, 25, .inr (.inr (.inr (.inr (fun c => if c < i then some (ad 2 c) else none))))))
  else if (j = 2 ∨ j = 3) ∧ ¬ k < i then none else if j = 4 ∧ ¬ k < 5 * i then none else cwM g ad mNil cK0 j k
section CP
variable {g : GG} {ad : Nat → Nat → Nat} {i : Nat}
theorem cp_1 : cwP g ad i 1 0 = some (ad 1 0, .inl (g.2.1 3, 25, .inr (.inr (.inr (.inr (fun c => if c < i then some (ad 2 c) else none)))))) := if_pos ⟨rfl, rfl⟩
theorem cp_0 : cwP g ad i 0 0 = some (ad 0 0, .inr (0, cMain ad cK0)) := by
  unfold cwP
  rw [if_neg (by omega), if_neg (by omega), if_neg (by omega), cw_0]
theorem cp_n2 {k : Nat} (h : ¬ k < i) : cwP g ad i 2 k = none := by
  unfold cwP
  rw [if_neg (by omega), if_pos ⟨Or.inl rfl, h⟩]
theorem cp_n3 {k : Nat} (h : ¬ k < i) : cwP g ad i 3 k = none := by
  unfold cwP
  rw [if_neg (by omega), if_pos ⟨Or.inr rfl, h⟩]
theorem cp_n4 {k : Nat} (h : ¬ k < 5 * i) : cwP g ad i 4 k = none := by
  unfold cwP
  rw [if_neg (by omega), if_neg (by omega), if_pos ⟨rfl, h⟩]
theorem cp_o {j k : Nat} (h1 : ¬ (j = 1 ∧ k = 0)) (h2 : ¬ ((j = 2 ∨ j = 3) ∧ ¬ k < i)) (h3 : ¬ (j = 4 ∧ ¬ k < 5 * i)) : cwP g ad i j k = cwM g ad mNil cK0 j k := by
  unfold cwP
  rw [if_neg h1, if_neg h2, if_neg h3]
end CP
def adC (ad : Nat → Nat → Nat) (i q ra : Nat) (la : Nat → Nat) : Nat → Nat → Nat := fun j k => if j = 2 ∧ k = i then q else if j = 3 ∧ k = i then ra else if j = 4 ∧ 5 * i ≤ k ∧ k < 5 * i + 5 then la (k - 5 * i) else ad j k
theorem adC_o {ad : Nat → Nat → Nat} {i q ra : Nat} {la : Nat → Nat} {j k : Nat} (h1 : ¬ (j = 2 ∧ k = i)) (h2 : ¬ (j = 3 ∧ k = i)) (h3 : ¬ (j = 4 ∧ 5 * i ≤ k ∧ k < 5 * i + 5)) : adC ad i q ra la j k = ad j k := by
  unfold adC
  rw [if_neg h1, if_neg h2, if_neg h3]
theorem adC_2 {ad : Nat → Nat → Nat} {i q ra : Nat} {la : Nat → Nat} : adC ad i q ra la 2 i = q := if_pos ⟨rfl, rfl⟩
theorem adC_3 {ad : Nat → Nat → Nat} {i q ra : Nat} {la : Nat → Nat} : adC ad i q ra la 3 i = ra := by
  unfold adC
  rw [if_neg (by omega), if_pos ⟨rfl, rfl⟩]
theorem adC_4 {ad : Nat → Nat → Nat} {i q ra : Nat} {la : Nat → Nat} {l : Nat} (h : l < 5) : adC ad i q ra la 4 (5 * i + l) = la l := by
  unfold adC
  rw [if_neg (by omega), if_neg (by omega), if_pos (by omega), Nat.add_sub_cancel_left]
theorem al_fs : ∀ j, j < 3 → defaultValue (tyJ2 j) = vp_V [.int 0, .null, .int 0] j := by
  intro j hj
  have h : j = 0 ∨ j = 1 ∨ j = 2 := by omega
  rcases h with rfl | rfl | rfl <;> rfl
theorem ce_fs : ∀ j, j < 9 → defaultValue (tyX2 j) = vp_V [.int 0, .null, .int 0, .int 0, .int 0, .int 0, .int 0, .null, .null] j := by
  intro j hj
  have h : j = 0 ∨ j = 1 ∨ j = 2 ∨ j = 3 ∨ j = 4 ∨ j = 5 ∨ j = 6 ∨ j = 7 ∨ j = 8 := by omega
  rcases h with rfl | rfl | rfl | rfl | rfl | rfl | rfl | rfl | rfl <;> rfl
theorem ck9_l (i l : Nat) (h : l < 5) : ck9 (5 * i + l) = if l = 0 then 0 else if l = 1 then 2 else if l = 2 then 3 else if l = 3 then 2 else 0 := by
  unfold ck9
  rw [show (5 * i + l) % 5 = l by omega]
/-- another cell stands -/
theorem cwP_s {D : va_G} {A : Nat → Prop} {g : GG} {ad : Nat → Nat → Nat} {i q ra : Nat} {la : Nat → Nat} {H : Heap} (hi : i < 25)
    (h : mW D A (mUp (cnM g (cwP g ad i) i q (ad 0 0) ra la) 1 0 (ad 1 0, .inl (g.2.1 3, 25, .inr (.inr (.inr (.inr (va_up (fun c => if c < i then some (ad 2 c) else none) i (some q)))))))) H) : mW D A (cwP g (adC ad i q ra la) (i + 1)) H := by
  have base : ∀ (j k : Nat), ¬ (j = 1 ∧ k = 0) → ¬ (j = 2 ∧ k = i) → ¬ (j = 3 ∧ k = i) → ¬ (j = 4 ∧ 5 * i ≤ k ∧ k < 5 * i + 5) → mUp (cnM g (cwP g ad i) i q (ad 0 0) ra la) 1 0 (ad 1 0, .inl (g.2.1 3, 25, .inr (.inr (.inr (.inr (va_up (fun c => if c < i then some (ad 2 c) else none) i (some q))))))) j k = cwP g ad i j k := by
    intro j k h1 h2 h3 h4
    unfold cnM
    rw [mUp_ne _ _ h1, mUp_ne _ _ (by omega), mUp_ne _ _ (by omega), mUp_ne _ _ (by omega), mUp_ne _ _ (by omega), mUp_ne _ _ (by omega), mUp_ne _ _ h3, mUp_ne _ _ h2]
  refine h.ext (fun j k z hz => ?_)
  by_cases c1 : j = 1 ∧ k = 0
  · obtain ⟨rfl, rfl⟩ := c1
    rw [cp_1] at hz
    cases hz
    refine ⟨_, mUp_self _ _ _ _, (show ad 1 0 = adC ad i q ra la 1 0 from (adC_o (by omega) (by omega) (by omega)).symm), fun hv => ?_⟩
    rw [adC_o (by omega) (by omega) (by omega)]
    refine va_refs (fun c hc => ?_) hv
    show (if c = i then some q else if c < i then some (ad 2 c) else none) = if c < i + 1 then some (adC ad i q ra la 2 c) else none
    by_cases e : c = i
    · rw [if_pos e, if_pos (by omega), e, adC_2]
    · rw [if_neg e, adC_o (by omega) (by omega) (by omega)]
      by_cases e2 : c < i
      · rw [if_pos e2, if_pos (by omega)]
      · rw [if_neg e2, if_neg (by omega)]
  by_cases c2 : j = 2 ∧ k = i
  · obtain ⟨rfl, rfl⟩ := c2
    rw [cp_o (by omega) (by omega) (by omega), cw_2 hi] at hz
    cases hz
    refine ⟨(q, .inr (2, [.int (nI k), .ref ra, .int 100, .int 0, .int 0, .int 2, .int 0, .null, .ref (ad 0 0)])), ?_, (show q = adC ad k q ra la 2 k from adC_2.symm), fun hv => ?_⟩
    · unfold cnM
      rw [mUp_ne _ _ c1, mUp_ne _ _ (by omega), mUp_ne _ _ (by omega), mUp_ne _ _ (by omega), mUp_ne _ _ (by omega), mUp_ne _ _ (by omega), mUp_ne _ _ (by omega), mUp_self]
    · rw [adC_2]
      have e : cCell (adC ad k q ra la) cK0 k = [.int (nI k), .ref ra, .int 100, .int 0, .int 0, .int 2, .int 0, .null, .ref (ad 0 0)] := by
        unfold cCell
        rw [adC_3, adC_o (by omega) (by omega) (by omega)]
        rfl
      rw [e]
      exact hv
  by_cases c3 : j = 3 ∧ k = i
  · obtain ⟨rfl, rfl⟩ := c3
    rw [cp_o (by omega) (by omega) (by omega), cw_3 hi] at hz
    cases hz
    refine ⟨(ra, .inl (g.2.1 4, 5, .inr (.inr (.inr (.inr (va_up (va_up (va_up (va_up (va_up (fun _ => none) 0 (some (la 0))) 1 (some (la 1))) 2 (some (la 2))) 3 (some (la 3))) 4 (some (la 4)))))))), ?_, (show ra = adC ad k q ra la 3 k from adC_3.symm), fun hv => ?_⟩
    · unfold cnM
      rw [mUp_ne _ _ c1, mUp_ne _ _ (by omega), mUp_ne _ _ (by omega), mUp_ne _ _ (by omega), mUp_ne _ _ (by omega), mUp_ne _ _ (by omega), mUp_self]
    · rw [adC_3]
      refine va_refs (fun l hl => ?_) hv
      have : l = 0 ∨ l = 1 ∨ l = 2 ∨ l = 3 ∨ l = 4 := by omega
      rcases this with rfl | rfl | rfl | rfl | rfl <;> exact congrArg some (adC_4 (by decide)).symm
  by_cases c4 : j = 4 ∧ 5 * i ≤ k ∧ k < 5 * i + 5
  · obtain ⟨rfl, c5, c6⟩ := c4
    obtain ⟨l, rfl⟩ : ∃ l, k = 5 * i + l := ⟨k - 5 * i, by omega⟩
    have hl : l < 5 := by omega
    rw [cp_o (by omega) (by omega) (by omega), cw_4 (by omega)] at hz
    cases hz
    have e : cLay cK0 (5 * i + l) = [.int 5, .int (ck9 (5 * i + l)), .int (-1000), .int 400] := rfl
    have e2 := ck9_l i l hl
    rw [e2] at e
    refine ⟨(la l, .inr (3, cLay cK0 (5 * i + l))), ?_, (show la l = adC ad i q ra la 4 (5 * i + l) from (adC_4 hl).symm), fun hv => ?_⟩
    · rw [e]
      unfold cnM
      rw [mUp_ne _ _ c1]
      have : l = 0 ∨ l = 1 ∨ l = 2 ∨ l = 3 ∨ l = 4 := by omega
      rcases this with rfl | rfl | rfl | rfl | rfl
      · rw [mUp_ne _ _ (by omega), mUp_ne _ _ (by omega), mUp_ne _ _ (by omega), mUp_ne _ _ (by omega)]; exact mUp_self _ _ _ _
      · rw [mUp_ne _ _ (by omega), mUp_ne _ _ (by omega), mUp_ne _ _ (by omega)]; exact mUp_self _ _ _ _
      · rw [mUp_ne _ _ (by omega), mUp_ne _ _ (by omega)]; exact mUp_self _ _ _ _
      · rw [mUp_ne _ _ (by omega)]; exact mUp_self _ _ _ _
      · exact mUp_self _ _ _ _
    · rw [adC_4 hl]
      exact hv
  by_cases c7 : ((j = 2 ∨ j = 3) ∧ ¬ k < i + 1) ∨ (j = 4 ∧ ¬ k < 5 * (i + 1))
  · exfalso
    rcases c7 with ⟨rfl | rfl, c8⟩ | ⟨rfl, c8⟩
    · rw [cp_n2 c8] at hz; cases hz
    · rw [cp_n3 c8] at hz; cases hz
    · rw [cp_n4 c8] at hz; cases hz
  have hz2 : cwM g (adC ad i q ra la) mNil cK0 j k = some z := by
    rw [← hz, cp_o c1 (fun y => c7 (Or.inl y)) (fun y => c7 (Or.inr y))]
  have key : cwM g (adC ad i q ra la) mNil cK0 j k = cwM g ad mNil cK0 j k ∨ (j = 3 ∧ k < i) := by
    by_cases hj11 : 11 < j
    · rw [cw_ext hj11, cw_ext hj11]
      exact Or.inl rfl
    have h12j : j = 0 ∨ j = 1 ∨ j = 2 ∨ j = 3 ∨ j = 4 ∨ j = 5 ∨ j = 6 ∨ j = 7 ∨ j = 8 ∨ j = 9 ∨ j = 10 ∨ j = 11 := by omega
    have n13 : ∀ k, ¬ k < nt cK0 13 0 := fun k h => Nat.not_lt_zero k h
    have n19 : ∀ k, ¬ k < nt cK0 19 0 := fun k h => Nat.not_lt_zero k h
    have n24 : ∀ k, ¬ k < nt cK0 24 0 := fun k h => Nat.not_lt_zero k h
    rcases h12j with rfl | rfl | rfl | rfl | rfl | rfl | rfl | rfl | rfl | rfl | rfl | rfl
    · refine Or.inl ?_
      by_cases hk : k = 0
      · subst hk
        rw [cw_0, cw_0, adC_o (by omega) (by omega) (by omega)]
        unfold cMain
        rw [adC_o (by omega) (by omega) (by omega), adC_o (by omega) (by omega) (by omega), adC_o (by omega) (by omega) (by omega), adC_o (by omega) (by omega) (by omega), adC_o (by omega) (by omega) (by omega), adC_o (by omega) (by omega) (by omega), adC_o (by omega) (by omega) (by omega), adC_o (by omega) (by omega) (by omega)]
      · rw [cwn_0 hk, cwn_0 hk]
    · refine Or.inl ?_
      rw [cwn_1 (by omega), cwn_1 (by omega)]
    · refine Or.inl ?_
      rw [cw_2 (by omega), cw_2 (by omega), adC_o (by omega) (by omega) (by omega)]
      unfold cCell
      rw [adC_o (by omega) (by omega) (by omega), adC_o (by omega) (by omega) (by omega)]
      rfl
    · exact Or.inr ⟨rfl, by omega⟩
    · refine Or.inl ?_
      rw [cw_4 (by omega), cw_4 (by omega), adC_o (by omega) (by omega) (by omega)]
    · refine Or.inl ?_
      by_cases hk : k < 3
      · rw [cw_5 hk, cw_5 hk, adC_o (by omega) (by omega) (by omega)]
        unfold cList cEl
        rw [adC_o (by omega) (by omega) (by omega)]
      · rw [cwn_5 hk, cwn_5 hk]
    · refine Or.inl ?_
      rw [cwn_6 (fun z => z.2 rfl), cwn_6 (fun z => z.2 rfl)]
    · exact Or.inl (by rw [cwn_7 (n13 k), cwn_7 (n13 k)])
    · exact Or.inl (by rw [cwn_8 (n19 k), cwn_8 (n19 k)])
    · exact Or.inl (by rw [cwn_9 (n19 k), cwn_9 (n19 k)])
    · exact Or.inl (by rw [cwn_10 (n24 k), cwn_10 (n24 k)])
    · refine Or.inl ?_
      by_cases hk : k < 4
      · have : k = 0 ∨ k = 1 ∨ k = 2 ∨ k = 3 := by omega
        rcases this with rfl | rfl | rfl | rfl
        · rw [cw_11a, cw_11a, adC_o (by omega) (by omega) (by omega)]
        · rw [cw_11b, cw_11b, adC_o (by omega) (by omega) (by omega)]
        · rw [cw_11c, cw_11c, adC_o (by omega) (by omega) (by omega)]
        · rw [cw_11d, cw_11d, adC_o (by omega) (by omega) (by omega)]
      · rw [cwn_11 hk, cwn_11 hk]
  rcases key with key | ⟨rfl, hk⟩
  · rw [key] at hz2
    exact ⟨z, (base j k c1 c2 c3 c4).trans ((cp_o c1 (by omega) (by omega)).trans hz2), rfl, fun hv => hv⟩
  · rw [cw_3 (by omega)] at hz2
    cases hz2
    refine ⟨_, (base 3 k c1 c2 c3 c4).trans ((cp_o c1 (by omega) (by omega)).trans (cw_3 (by omega))), (show ad 3 k = adC ad i q ra la 3 k from (adC_o (by omega) (by omega) (by omega)).symm), fun hv => ?_⟩
    rw [adC_o (by omega) (by omega) (by omega)]
    exact va_refs (fun l hl => by rw [adC_o (by omega) (by omega) (by omega)]) hv
/-- all cells stand -/
theorem cwP_25 {D : va_G} {A : Nat → Prop} {g : GG} {ad : Nat → Nat → Nat} {H : Heap} (h : mW D A (cwP g ad 25) H) : mW D A (cwM g ad mNil cK0) H := by
  refine h.ext (fun j k z hz => ?_)
  by_cases c1 : j = 1 ∧ k = 0
  · obtain ⟨rfl, rfl⟩ := c1
    rw [cw_1] at hz
    cases hz
    exact ⟨_, cp_1, rfl, fun hv => va_refs (fun c hc => if_pos hc) hv⟩
  by_cases c2 : (j = 2 ∨ j = 3) ∧ ¬ k < 25
  · obtain ⟨rfl | rfl, c3⟩ := c2
    · rw [cwn_2 c3] at hz; cases hz
    · rw [cwn_3 c3] at hz; cases hz
  by_cases c4 : j = 4 ∧ ¬ k < 5 * 25
  · obtain ⟨rfl, c5⟩ := c4
    rw [cwn_4 c5] at hz; cases hz
  exact ⟨z, (cp_o c1 c2 c4).trans hz, rfl, fun hv => hv⟩
