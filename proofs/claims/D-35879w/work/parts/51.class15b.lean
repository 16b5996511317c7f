/-! what is added to a list -/
set_option maxRecDepth 100000
theorem addW_0 {D : va_G} {A : Nat → Prop} {g : GG} {ad : Nat → Nat → Nat} {Mx : MM} {x : St} {eN : Nat} {F9 : Nat → Option Nat} {H : Heap} (hn : nt x 13 0 < 50) (hc1 : 0 < capN x 0) (hc2 : capN x 0 < 1000) (h12 : Mx 12 0 = none) (hF : ∀ j, F9 j = if j < nt x 13 0 + 1 then some (ad 7 j) else none)
    (h : mW D A (liM g (cwM g ad (mUp Mx 12 0 (ad 7 (nt x 13 0), .inr (5, cHouse ad x (nt x 13 0)))) x) 0 (ad 5 0) (x.1 53 0 + 1) eN (nt x 13 0 + 1) (capN x 0) F9) H) : mW D A (cwM g (adP ad 6 0 eN) Mx (adS0 x)) H := by
  have h1 : mW D A (mUp (liM g (cwM g ad Mx x) 0 (ad 5 0) (x.1 53 0 + 1) eN (nt x 13 0 + 1) (capN x 0) F9) 12 0 (ad 7 (nt x 13 0), .inr (5, cHouse ad x (nt x 13 0)))) H := by
    refine h.congr (fun j k => ?_)
    by_cases c1 : j = 12 ∧ k = 0
    · obtain ⟨rfl, rfl⟩ := c1
      rw [mUp_self, liM_o _ _ _ _ _ _ _ _ _ (by omega) (by omega), cw_ext (by decide), mUp_self]
    · rw [mUp_ne _ _ c1]
      exact liM_base ((cw_up (by decide) _ j k).trans (mUp_ne _ _ c1)).symm
  have hz : (liM g (cwM g ad Mx x) 0 (ad 5 0) (x.1 53 0 + 1) eN (nt x 13 0 + 1) (capN x 0) F9) 12 0 = none := (liM_o _ _ _ _ _ _ _ _ _ (by omega) (by omega)).trans ((cw_ext (by decide)).trans h12)
  refine (h1.mv (k0 := 7) (n0 := nt x 13 0) hz).congr (fun j k => ?_)
  have ho := adS0_o x
  have hC := adS0_c x (by omega)
  have h54 : nt (adS0 x) 54 0 = capN x 0 := by unfold nt; rw [adS0_54, if_pos rfl, nI_clamp (by omega)]
  by_cases c1 : j = 7 ∧ k = nt x 13 0
  · obtain ⟨rfl, rfl⟩ := c1
    rw [mUp_self, cw_7 (by omega), adP_o (by omega)]
    unfold cHouse nt
    rw [adP_o (by omega), ho 14 _ (by decide) (by decide) (by decide), ho 15 _ (by decide) (by decide) (by decide), ho 16 _ (by decide) (by decide) (by decide), ho 18 _ (by decide) (by decide) (by decide), ho 17 _ (by decide) (by decide) (by decide)]
  rw [mUp_ne _ _ c1]
  unfold liM
  by_cases c2 : j = 6 ∧ k = 0
  · obtain ⟨rfl, rfl⟩ := c2
    have e : cArr (adP ad 6 0 eN) (adS0 x) 0 = F9 := by
      funext j
      rw [hF]
      unfold cArr
      rw [(cCnt0_o x (by omega)).1, nI_clamp (by omega), cElm_P (by decide) (fun z => absurd z (by decide)) (fun z => absurd z (by decide)) (fun z => absurd z (by decide))]
      rfl
    rw [mUp_self, cw_6 (by decide) (by omega), h54, e, adP_s]
  rw [mUp_ne _ _ c2]
  unfold liL
  by_cases c3 : j = 5 ∧ k = 0
  · obtain ⟨rfl, rfl⟩ := c3
    have e : cEl g (adP ad 6 0 eN) (adS0 x) 0 = eN := by
      unfold cEl
      rw [h54, if_neg (by omega), adP_s]
    rw [mUp_self, cw_5 (by decide), adP_o (by omega)]
    unfold cList
    rw [e, adS0_53, if_pos rfl, (cCnt0_o x (by omega)).1]
  rw [mUp_ne _ _ c3, cw_adP (by decide) (by decide) c2 (fun _ z y => c3 ⟨z, y⟩) (fun z => absurd z (by decide)) (fun z => absurd z (by decide)) (fun z => absurd z (by decide)), cw_adS0 (by omega) c1 c2 c3]
theorem addW_1 {D : va_G} {A : Nat → Prop} {g : GG} {ad : Nat → Nat → Nat} {Mx : MM} {x : St} {eN : Nat} {F9 : Nat → Option Nat} {H : Heap} (hn : nt x 19 0 < 50) (hc1 : 0 < capN x 1) (hc2 : capN x 1 < 1000) (h12 : Mx 12 0 = none) (h13 : Mx 13 0 = none) (hF : ∀ j, F9 j = if j < nt x 19 0 + 1 then some (ad 8 j) else none)
    (h : mW D A (liM g (cwM g ad (mUp (mUp Mx 13 0 (ad 9 (nt x 19 0), .inl (g.2.1 0, 3000, .inl (cRead x (nt x 19 0))))) 12 0 (ad 8 (nt x 19 0), .inr (6, cHole ad x (nt x 19 0)))) x) 1 (ad 5 1) (x.1 53 1 + 1) eN (nt x 19 0 + 1) (capN x 1) F9) H) : mW D A (cwM g (adP ad 6 1 eN) Mx (adS1 x)) H := by
  have h1 : mW D A (mUp (mUp (liM g (cwM g ad Mx x) 1 (ad 5 1) (x.1 53 1 + 1) eN (nt x 19 0 + 1) (capN x 1) F9) 13 0 (ad 9 (nt x 19 0), .inl (g.2.1 0, 3000, .inl (cRead x (nt x 19 0))))) 12 0 (ad 8 (nt x 19 0), .inr (6, cHole ad x (nt x 19 0)))) H := by
    refine h.congr (fun j k => ?_)
    by_cases c1 : j = 12 ∧ k = 0
    · obtain ⟨rfl, rfl⟩ := c1
      rw [mUp_self, liM_o _ _ _ _ _ _ _ _ _ (by omega) (by omega), cw_ext (by decide), mUp_self]
    · rw [mUp_ne _ _ c1]
      by_cases c2 : j = 13 ∧ k = 0
      · obtain ⟨rfl, rfl⟩ := c2
        rw [mUp_self, liM_o _ _ _ _ _ _ _ _ _ (by omega) (by omega), cw_ext (by decide), mUp_ne _ _ (by omega), mUp_self]
      · rw [mUp_ne _ _ c2]
        exact liM_base (((cw_up (by decide) _ j k).trans (mUp_ne _ _ c1)).trans ((cw_up (by decide) _ j k).trans (mUp_ne _ _ c2))).symm
  have hz : (liM g (cwM g ad Mx x) 1 (ad 5 1) (x.1 53 1 + 1) eN (nt x 19 0 + 1) (capN x 1) F9) 12 0 = none := (liM_o _ _ _ _ _ _ _ _ _ (by omega) (by omega)).trans ((cw_ext (by decide)).trans h12)
  have hz3 : (liM g (cwM g ad Mx x) 1 (ad 5 1) (x.1 53 1 + 1) eN (nt x 19 0 + 1) (capN x 1) F9) 13 0 = none := (liM_o _ _ _ _ _ _ _ _ _ (by omega) (by omega)).trans ((cw_ext (by decide)).trans h13)
  have h2 := h1.mv (k0 := 8) (n0 := nt x 19 0) ((mUp_ne _ _ (by omega)).trans hz)
  have h3 : mW D A (mUp (mUp (liM g (cwM g ad Mx x) 1 (ad 5 1) (x.1 53 1 + 1) eN (nt x 19 0 + 1) (capN x 1) F9) 8 (nt x 19 0) (ad 8 (nt x 19 0), .inr (6, cHole ad x (nt x 19 0)))) 13 0 (ad 9 (nt x 19 0), .inl (g.2.1 0, 3000, .inl (cRead x (nt x 19 0))))) H := h2.congr (fun j k => mUp_sw (by omega) j k)
  refine (h3.mv (k0 := 9) (n0 := nt x 19 0) ((mUp_ne _ _ (by omega)).trans hz3)).congr (fun j k => ?_)
  have ho := adS1_o x
  have hC := adS1_c x (by omega)
  have h54 : nt (adS1 x) 54 1 = capN x 1 := by unfold nt; rw [adS1_54, if_pos rfl, nI_clamp (by omega)]
  by_cases c9 : j = 9 ∧ k = nt x 19 0
  · obtain ⟨rfl, rfl⟩ := c9
    rw [mUp_self, cw_9 (by omega), adP_o (by omega)]
    unfold cRead
    rw [show (adS1 x).1 23 = x.1 23 from funext (fun k => ho 23 k (by decide) (by decide) (by decide))]
  rw [mUp_ne _ _ c9]
  by_cases c1 : j = 8 ∧ k = nt x 19 0
  · obtain ⟨rfl, rfl⟩ := c1
    rw [mUp_self, cw_8 (by omega), adP_o (by omega)]
    unfold cHole nt
    rw [adP_o (by omega), adP_o (by omega), ho 20 _ (by decide) (by decide) (by decide), ho 21 _ (by decide) (by decide) (by decide), ho 22 _ (by decide) (by decide) (by decide)]
  rw [mUp_ne _ _ c1]
  unfold liM
  by_cases c2 : j = 6 ∧ k = 1
  · obtain ⟨rfl, rfl⟩ := c2
    have e : cArr (adP ad 6 1 eN) (adS1 x) 1 = F9 := by
      funext j
      rw [hF]
      unfold cArr
      rw [(cCnt1_o x (by omega)).1, nI_clamp (by omega), cElm_P (by decide) (fun z => absurd z (by decide)) (fun z => absurd z (by decide)) (fun z => absurd z (by decide))]
      rfl
    rw [mUp_self, cw_6 (by decide) (by omega), h54, e, adP_s]
  rw [mUp_ne _ _ c2]
  unfold liL
  by_cases c3 : j = 5 ∧ k = 1
  · obtain ⟨rfl, rfl⟩ := c3
    have e : cEl g (adP ad 6 1 eN) (adS1 x) 1 = eN := by
      unfold cEl
      rw [h54, if_neg (by omega), adP_s]
    rw [mUp_self, cw_5 (by decide), adP_o (by omega)]
    unfold cList
    rw [e, adS1_53, if_pos rfl, (cCnt1_o x (by omega)).1]
  rw [mUp_ne _ _ c3, cw_adP (by decide) (by decide) c2 (fun _ z y => c3 ⟨z, y⟩) (fun z => absurd z (by decide)) (fun z => absurd z (by decide)) (fun z => absurd z (by decide)), cw_adS1 (by omega) c1 c2 c3 c9]
theorem addW_2 {D : va_G} {A : Nat → Prop} {g : GG} {ad : Nat → Nat → Nat} {Mx : MM} {x : St} {eN : Nat} {F9 : Nat → Option Nat} {H : Heap} (hn : nt x 24 0 < 50) (hc1 : 0 < capN x 2) (hc2 : capN x 2 < 1000) (h12 : Mx 12 0 = none) (hF : ∀ j, F9 j = if j < nt x 24 0 + 1 then some (ad 10 j) else none)
    (h : mW D A (liM g (cwM g ad (mUp Mx 12 0 (ad 10 (nt x 24 0), .inr (7, cClaim ad x (nt x 24 0)))) x) 2 (ad 5 2) (x.1 53 2 + 1) eN (nt x 24 0 + 1) (capN x 2) F9) H) : mW D A (cwM g (adP ad 6 2 eN) Mx (adS2 x)) H := by
  have h1 : mW D A (mUp (liM g (cwM g ad Mx x) 2 (ad 5 2) (x.1 53 2 + 1) eN (nt x 24 0 + 1) (capN x 2) F9) 12 0 (ad 10 (nt x 24 0), .inr (7, cClaim ad x (nt x 24 0)))) H := by
    refine h.congr (fun j k => ?_)
    by_cases c1 : j = 12 ∧ k = 0
    · obtain ⟨rfl, rfl⟩ := c1
      rw [mUp_self, liM_o _ _ _ _ _ _ _ _ _ (by omega) (by omega), cw_ext (by decide), mUp_self]
    · rw [mUp_ne _ _ c1]
      exact liM_base ((cw_up (by decide) _ j k).trans (mUp_ne _ _ c1)).symm
  have hz : (liM g (cwM g ad Mx x) 2 (ad 5 2) (x.1 53 2 + 1) eN (nt x 24 0 + 1) (capN x 2) F9) 12 0 = none := (liM_o _ _ _ _ _ _ _ _ _ (by omega) (by omega)).trans ((cw_ext (by decide)).trans h12)
  refine (h1.mv (k0 := 10) (n0 := nt x 24 0) hz).congr (fun j k => ?_)
  have ho := adS2_o x
  have hC := adS2_c x (by omega)
  have h54 : nt (adS2 x) 54 2 = capN x 2 := by unfold nt; rw [adS2_54, if_pos rfl, nI_clamp (by omega)]
  by_cases c1 : j = 10 ∧ k = nt x 24 0
  · obtain ⟨rfl, rfl⟩ := c1
    rw [mUp_self, cw_10 (by omega), adP_o (by omega)]
    unfold cClaim nt
    rw [adP_o (by omega), ho 40 _ (by decide) (by decide) (by decide), ho 41 _ (by decide) (by decide) (by decide), ho 42 _ (by decide) (by decide) (by decide), ho 25 _ (by decide) (by decide) (by decide)]
  rw [mUp_ne _ _ c1]
  unfold liM
  by_cases c2 : j = 6 ∧ k = 2
  · obtain ⟨rfl, rfl⟩ := c2
    have e : cArr (adP ad 6 2 eN) (adS2 x) 2 = F9 := by
      funext j
      rw [hF]
      unfold cArr
      rw [(cCnt2_o x (by omega)).1, nI_clamp (by omega), cElm_P (by decide) (fun z => absurd z (by decide)) (fun z => absurd z (by decide)) (fun z => absurd z (by decide))]
      rfl
    rw [mUp_self, cw_6 (by decide) (by omega), h54, e, adP_s]
  rw [mUp_ne _ _ c2]
  unfold liL
  by_cases c3 : j = 5 ∧ k = 2
  · obtain ⟨rfl, rfl⟩ := c3
    have e : cEl g (adP ad 6 2 eN) (adS2 x) 2 = eN := by
      unfold cEl
      rw [h54, if_neg (by omega), adP_s]
    rw [mUp_self, cw_5 (by decide), adP_o (by omega)]
    unfold cList
    rw [e, adS2_53, if_pos rfl, (cCnt2_o x (by omega)).1]
  rw [mUp_ne _ _ c3, cw_adP (by decide) (by decide) c2 (fun _ z y => c3 ⟨z, y⟩) (fun z => absurd z (by decide)) (fun z => absurd z (by decide)) (fun z => absurd z (by decide)), cw_adS2 (by omega) c1 c2 c3]
