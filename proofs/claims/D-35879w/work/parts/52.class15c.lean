/-! objects just made -/
set_option maxRecDepth 100000
def houS (x : St) (k : Nat) (pl co mo : Int32) : St := sI (sI (sI (sI (sI x 14 (nt x 13 0) (nI k)) 15 (nt x 13 0) pl) 16 (nt x 13 0) co) 18 (nt x 13 0) mo) 17 (nt x 13 0) 0
def borS (x : St) (k : Nat) (dr mo : Int32) : St := sI (sI (sI x 20 (nt x 19 0) (nI k)) 21 (nt x 19 0) dr) 22 (nt x 19 0) mo
def bor0 (x : St) : Nat → St := it (fun y j => sI y 23 (3000 * nt x 19 0 + j) 0) x
def claS (x : St) (h : Nat) (tl mo am : Int32) : St := sI (sI (sI (sI x 40 (nt x 24 0) (nI h)) 41 (nt x 24 0) tl) 42 (nt x 24 0) mo) 25 (nt x 24 0) am
theorem houM {g : GG} {ad : Nat → Nat → Nat} {Mx : MM} {x : St} (q c0 : Nat) (pl co mo : Int32) (hho : hoOK x) (hcl : clOK x) : ∀ j k, cwM g (adP ad 7 (nt x 13 0) q) Mx (houS x c0 pl co mo) j k = cwM g ad Mx x j k := by
  intro j k
  by_cases h : j = 7 ∧ k = nt x 13 0
  · obtain ⟨rfl, rfl⟩ := h
    have e : nt (houS x c0 pl co mo) 13 0 = nt x 13 0 := rfl
    rw [cwn_7 (by rw [e]; omega), cwn_7 (by omega)]
  · have e : cwM g (adP ad 7 (nt x 13 0) q) Mx (houS x c0 pl co mo) j k = cwM g (adP ad 7 (nt x 13 0) q) Mx x j k := by
      unfold houS
      rw [cw_sI (by refine ⟨?_, ?_, ?_, ?_, ?_, ?_, ?_, ?_, ?_, ?_⟩ <;> intros <;> omega), cw_sI (by refine ⟨?_, ?_, ?_, ?_, ?_, ?_, ?_, ?_, ?_, ?_⟩ <;> intros <;> omega), cw_sI (by refine ⟨?_, ?_, ?_, ?_, ?_, ?_, ?_, ?_, ?_, ?_⟩ <;> intros <;> omega), cw_sI (by refine ⟨?_, ?_, ?_, ?_, ?_, ?_, ?_, ?_, ?_, ?_⟩ <;> intros <;> omega), cw_sI (by refine ⟨?_, ?_, ?_, ?_, ?_, ?_, ?_, ?_, ?_, ?_⟩ <;> intros <;> omega)]
    rw [e]
    exact cw_adP (by decide) (by decide) h (fun z => absurd z (by decide)) (fun _ => ⟨Nat.le_refl _, hho, hcl⟩) (fun z => absurd z (by decide)) (fun z => absurd z (by decide))
theorem claM {g : GG} {ad : Nat → Nat → Nat} {Mx : MM} {x : St} (q h0 : Nat) (tl mo am : Int32) : ∀ j k, cwM g (adP ad 10 (nt x 24 0) q) Mx (claS x h0 tl mo am) j k = cwM g ad Mx x j k := by
  intro j k
  by_cases h : j = 10 ∧ k = nt x 24 0
  · obtain ⟨rfl, rfl⟩ := h
    have e : nt (claS x h0 tl mo am) 24 0 = nt x 24 0 := rfl
    rw [cwn_10 (by rw [e]; omega), cwn_10 (by omega)]
  · have e : cwM g (adP ad 10 (nt x 24 0) q) Mx (claS x h0 tl mo am) j k = cwM g (adP ad 10 (nt x 24 0) q) Mx x j k := by
      unfold claS
      rw [cw_sI (by refine ⟨?_, ?_, ?_, ?_, ?_, ?_, ?_, ?_, ?_, ?_⟩ <;> intros <;> omega), cw_sI (by refine ⟨?_, ?_, ?_, ?_, ?_, ?_, ?_, ?_, ?_, ?_⟩ <;> intros <;> omega), cw_sI (by refine ⟨?_, ?_, ?_, ?_, ?_, ?_, ?_, ?_, ?_, ?_⟩ <;> intros <;> omega), cw_sI (by refine ⟨?_, ?_, ?_, ?_, ?_, ?_, ?_, ?_, ?_, ?_⟩ <;> intros <;> omega)]
    rw [e]
    exact cw_adP (by decide) (by decide) h (fun z => absurd z (by decide)) (fun z => absurd z (by decide)) (fun z => absurd z (by decide)) (fun _ => Nat.le_refl _)
theorem borS_2 (y : St) (c0 : Nat) (dr mo : Int32) : (borS y c0 dr mo).2 = y.2 := rfl
theorem bor0_o (x : St) : ∀ n, (∀ f, f ≠ 23 → (bor0 x n).1 f = x.1 f) ∧ (bor0 x n).2 = x.2 ∧ ∀ j, (bor0 x n).1 23 j = if 3000 * nt x 19 0 ≤ j ∧ j < 3000 * nt x 19 0 + n then 0 else x.1 23 j := by
  intro n
  induction n with
  | zero => exact ⟨fun _ _ => rfl, rfl, fun j => by rw [if_neg (by omega)]; rfl⟩
  | succ n ih =>
    obtain ⟨h1, h2, h3⟩ := ih
    have e : bor0 x (n + 1) = sI (bor0 x n) 23 (3000 * nt x 19 0 + n) 0 := it_succ _ _ _
    rw [e]
    refine ⟨fun f hf => (sI_ne _ 23 _ _ hf).trans (h1 f hf), h2, fun j => ?_⟩
    rw [sI_1, h3]
    by_cases c1 : j = 3000 * nt x 19 0 + n
    · rw [if_pos ⟨rfl, c1⟩, if_pos (by omega)]
    · rw [if_neg (fun z => c1 z.2)]
      by_cases c2 : 3000 * nt x 19 0 ≤ j ∧ j < 3000 * nt x 19 0 + n
      · rw [if_pos c2, if_pos (by omega)]
      · rw [if_neg c2, if_neg (by omega)]
theorem bor_eq (x : St) (c0 : Nat) (dr mo : Int32) (f : Nat) (hf : f ≠ 23) (h2 : f ≠ 20) (h3 : f ≠ 21) (h4 : f ≠ 22) (k : Nat) : (borS (bor0 x 3000) c0 dr mo).1 f k = x.1 f k := by
  unfold borS
  rw [sI_1, sI_1, sI_1, if_neg (by omega), if_neg (by omega), if_neg (by omega), (bor0_o x 3000).1 f hf]
theorem bor_n (x : St) (f : Nat) (hf : f ≠ 23) (k : Nat) : nt (bor0 x 3000) f k = nt x f k := by unfold nt; rw [(bor0_o x 3000).1 f hf]
theorem borM {g : GG} {ad : Nat → Nat → Nat} {Mx : MM} {x : St} (q q2 c0 : Nat) (dr mo : Int32) : ∀ j k, cwM g (adP (adP ad 8 (nt x 19 0) q) 9 (nt x 19 0) q2) Mx (borS (bor0 x 3000) c0 dr mo) j k = cwM g ad Mx x j k := by
  intro j k
  have hq := bor_eq x c0 dr mo
  have hN : nt (borS (bor0 x 3000) c0 dr mo) 19 0 = nt x 19 0 := by unfold nt; rw [hq 19 (by decide) (by decide) (by decide) (by decide)]
  have hL : (borS (bor0 x 3000) c0 dr mo).2 = x.2 := (borS_2 _ _ _ _).trans (bor0_o x 3000).2.1
  have hN0 : nt (bor0 x 3000) 19 0 = nt x 19 0 := bor_n x 19 (by decide) 0
  by_cases h : (j = 8 ∨ j = 9) ∧ k = nt x 19 0
  · obtain ⟨rfl | rfl, rfl⟩ := h
    · rw [cwn_8 (by omega), cwn_8 (by omega)]
    · rw [cwn_9 (by omega), cwn_9 (by omega)]
  · have q5 : ∀ f, (f ≠ 23 ∧ f ≠ 20 ∧ f ≠ 21 ∧ f ≠ 22) → ∀ k, (borS (bor0 x 3000) c0 dr mo).1 f k = x.1 f k := fun f a k => hq f a.1 a.2.1 a.2.2.1 a.2.2.2 k
    have e : cwM g (adP (adP ad 8 (nt x 19 0) q) 9 (nt x 19 0) q2) Mx (borS (bor0 x 3000) c0 dr mo) j k = cwM g (adP (adP ad 8 (nt x 19 0) q) 9 (nt x 19 0) q2) Mx x j k := by
      refine cwM_congr ⟨fun _ _ => ⟨by rw [hL], q5 1 (by decide) _⟩, fun _ => ⟨q5 2 (by decide) _, q5 3 (by decide) _, q5 4 (by decide) _, q5 5 (by decide) _, q5 6 (by decide) _, q5 52 (by decide) _⟩, fun _ => ⟨q5 8 (by decide) _, q5 9 (by decide) _, q5 10 (by decide) _, q5 11 (by decide) _⟩, fun _ => ⟨q5 53 (by decide) _, q5 54 (by decide) _⟩, fun _ => ⟨q5 13 (by decide) _, q5 19 (by decide) _, q5 24 (by decide) _⟩,
        fun _ => ⟨q5 14 (by decide) _, q5 15 (by decide) _, q5 16 (by decide) _, q5 17 (by decide) _, q5 18 (by decide) _⟩, fun e8 => ?_, fun e9 t ht => ?_, fun _ => ⟨q5 40 (by decide) _, q5 41 (by decide) _, q5 42 (by decide) _, q5 25 (by decide) _⟩, fun _ => ⟨fun _ => ⟨by rw [hL], by rw [hL]⟩, fun _ => ⟨by rw [hL], by rw [hL], by rw [hL]⟩, fun _ => funext (q5 51 (by decide)), fun _ => funext (q5 50 (by decide))⟩⟩
      · have hk : k ≠ nt x 19 0 := fun z => h ⟨Or.inl e8, z⟩
        unfold borS
        rw [hN0]
        refine ⟨?_, ?_, ?_⟩
        · rw [sI_o (fun z => hk z.2), sI_o (fun z => hk z.2), sI_o (fun z => hk z.2), (bor0_o x 3000).1 20 (by decide)]
        · rw [sI_o (fun z => hk z.2), sI_o (fun z => hk z.2), sI_o (fun z => hk z.2), (bor0_o x 3000).1 21 (by decide)]
        · rw [sI_o (fun z => hk z.2), sI_o (fun z => hk z.2), sI_o (fun z => hk z.2), (bor0_o x 3000).1 22 (by decide)]
      · have hk : k ≠ nt x 19 0 := fun z => h ⟨Or.inr e9, z⟩
        unfold borS
        rw [sI_o (fun z => absurd z.1 (by decide)), sI_o (fun z => absurd z.1 (by decide)), sI_o (fun z => absurd z.1 (by decide)), (bor0_o x 3000).2.2, if_neg (by omega)]
    rw [e]
    rw [cw_adP (by decide) (by decide) (fun z => h ⟨Or.inr z.1, z.2⟩) (fun z => absurd z (by decide)) (fun z => absurd z (by decide)) (fun _ => Nat.le_refl _) (fun z => absurd z (by decide))]
    exact cw_adP (by decide) (by decide) (fun z => h ⟨Or.inl z.1, z.2⟩) (fun z => absurd z (by decide)) (fun z => absurd z (by decide)) (fun _ => Nat.le_refl _) (fun z => absurd z (by decide))
