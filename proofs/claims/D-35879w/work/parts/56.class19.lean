/-! the land's own methods: house, borehole, claim -/
set_option maxRecDepth 100000
theorem ls_of {x y : St} (h13 : y.1 13 0 = x.1 13 0) (h19 : y.1 19 0 = x.1 19 0) (h24 : y.1 24 0 = x.1 24 0) (h54 : ∀ i, y.1 54 i = x.1 54 i) (hls : lsOK x) : lsOK y := by
  intro i hi
  obtain ⟨h1, h2, h3⟩ := hls i hi
  have e0 : cCnt y i = cCnt x i := by unfold cCnt; rw [h13, h19, h24]
  have e1 : cN y i = cN x i := by unfold cN; rw [e0]
  have e2 : nt y 54 i = nt x 54 i := by unfold nt; rw [h54]
  rw [e0, e1, e2]
  exact ⟨h1, h2, h3⟩
theorem cap_of {x y : St} (h54 : ∀ i, y.1 54 i = x.1 54 i) (hcp : capOK x) : capOK y := by
  intro i hi
  have e2 : nt y 54 i = nt x 54 i := by unfold nt; rw [h54]
  rw [e2]
  exact hcp i hi
theorem cHou_nI {ad : Nat → Nat → Nat} {x : St} {k n q : Nat} (hn : n < 50) (hq : ad 7 n = q) : va_rf (cHou ad (sI x 52 k (nI n)) k) = .ref q := by
  have hm1 : ¬ nI n = (-1) := fun z => absurd (show (0 : Int32) ≤ -1 from z ▸ nI_pos' (by omega)) (by decide)
  have e52 : (sI x 52 k (nI n)).1 52 k = nI n := if_pos ⟨rfl, rfl⟩
  have hH : cHou ad (sI x 52 k (nI n)) k = some q := by
    unfold cHou nt
    rw [e52, if_neg hm1, nI_clamp (by omega), hq]
  rw [hH]
  rfl
def chsF (x : St) (k : Nat) (pl co : Int32) : St := adS0 (sI (houS x k pl co (x.1 1 0)) 52 k (nI (nt x 13 0)))
def cboF (x : St) (k : Nat) (dr : Int32) : St := adS1 (borS (bor0 x 3000) k dr (x.1 1 0))
def ccmF (x : St) (h : Nat) (mo am : Int32) : St := adS2 (claS x h (x.1 17 h) mo am)
theorem hou_a {x : St} {k : Nat} {pl co mo : Int32} (v : Int32) : (sI (houS x k pl co mo) 52 k v).1 14 (nt x 13 0) = nI k ∧ (sI (houS x k pl co mo) 52 k v).1 15 (nt x 13 0) = pl ∧ (sI (houS x k pl co mo) 52 k v).1 16 (nt x 13 0) = co ∧ (sI (houS x k pl co mo) 52 k v).1 18 (nt x 13 0) = mo ∧ (sI (houS x k pl co mo) 52 k v).1 17 (nt x 13 0) = 0 ∧
    ∀ f j, f ≠ 14 → f ≠ 15 → f ≠ 16 → f ≠ 17 → f ≠ 18 → f ≠ 52 → (sI (houS x k pl co mo) 52 k v).1 f j = x.1 f j := by
  unfold houS
  refine ⟨?_, ?_, ?_, ?_, ?_, fun f j a b c d e f9 => ?_⟩
  · rw [sI_o (fun z => absurd z.1 (by decide)), sI_o (fun z => absurd z.1 (by decide)), sI_o (fun z => absurd z.1 (by decide)), sI_o (fun z => absurd z.1 (by decide)), sI_o (fun z => absurd z.1 (by decide)), sI_1, if_pos ⟨rfl, rfl⟩]
  · rw [sI_o (fun z => absurd z.1 (by decide)), sI_o (fun z => absurd z.1 (by decide)), sI_o (fun z => absurd z.1 (by decide)), sI_o (fun z => absurd z.1 (by decide)), sI_1, if_pos ⟨rfl, rfl⟩]
  · rw [sI_o (fun z => absurd z.1 (by decide)), sI_o (fun z => absurd z.1 (by decide)), sI_o (fun z => absurd z.1 (by decide)), sI_1, if_pos ⟨rfl, rfl⟩]
  · rw [sI_o (fun z => absurd z.1 (by decide)), sI_o (fun z => absurd z.1 (by decide)), sI_1, if_pos ⟨rfl, rfl⟩]
  · rw [sI_o (fun z => absurd z.1 (by decide)), sI_1, if_pos ⟨rfl, rfl⟩]
  · rw [sI_o (fun z => f9 z.1), sI_o (fun z => d z.1), sI_o (fun z => e z.1), sI_o (fun z => c z.1), sI_o (fun z => b z.1), sI_o (fun z => a z.1)]
theorem hou_end {D : va_G} {A : Nat → Prop} {g : GG} {ad ad1 : Nat → Nat → Nat} {Mx : MM} {x x2 : St} {k q eN : Nat} {pl co mo : Int32} {F9 : Nat → Option Nat} {H : Heap} (hk : k < 25) (hls : lsOK x) (hcp : capOK x) (h12 : Mx 12 0 = none) (hx2 : sI (houS x k pl co mo) 52 k (nI (nt x 13 0)) = x2) (ha : adP ad 7 (nt x 13 0) q = ad1)
    (hF : ∀ j, F9 j = if j < cN x2 0 + 1 then some (cElm ad1 0 j) else none) (h : mW D A (liM g (cwM g ad1 (mUp Mx 12 0 (q, .inr (5, [.ref (ad 2 k), .int pl, .int co, .int mo, .int 0]))) x2) 0 (ad1 5 0) (x2.1 53 0 + 1) eN (cN x2 0 + 1) (capN x2 0) F9) H) : mW D A (cwM g (adP ad1 6 0 eN) Mx (adS0 x2)) H := by
  obtain ⟨e14, e15, e16, e18, e17, eo⟩ := hou_a (x := x) (k := k) (pl := pl) (co := co) (mo := mo) (nI (nt x 13 0))
  rw [hx2] at e14 e15 e16 e18 e17 eo
  have hn : nt x2 13 0 = nt x 13 0 := by unfold nt; rw [eo 13 0 (by decide) (by decide) (by decide) (by decide) (by decide) (by decide)]
  have hls2 : lsOK x2 := ls_of (eo 13 0 (by decide) (by decide) (by decide) (by decide) (by decide) (by decide)) (eo 19 0 (by decide) (by decide) (by decide) (by decide) (by decide) (by decide)) (eo 24 0 (by decide) (by decide) (by decide) (by decide) (by decide) (by decide)) (fun i => eo 54 i (by decide) (by decide) (by decide) (by decide) (by decide) (by decide)) hls
  have hcp2 : capOK x2 := cap_of (fun i => eo 54 i (by decide) (by decide) (by decide) (by decide) (by decide) (by decide)) hcp
  have hb := capN_b hls2 hcp2 (i := 0) (by decide)
  have hob : cHouse ad1 x2 (nt x2 13 0) = [.ref (ad 2 k), .int pl, .int co, .int mo, .int 0] := by
    rw [hn]
    have e14n : nt x2 14 (nt x 13 0) = k := by show (x2.1 14 (nt x 13 0)).toNatClampNeg = k; rw [e14, nI_clamp (by omega)]
    unfold cHouse
    rw [e14n, e15, e16, e18, e17, ← ha, adP_o (by omega)]
  have hq : ad1 7 (nt x2 13 0) = q := by rw [hn, ← ha, adP_s]
  rw [← hob, ← hq] at h
  exact addW_0 (hls_n x2 hls2).1 hb.1 hb.2 h12 hF h
theorem cla_a {x : St} {h0 : Nat} {tl mo am : Int32} : (claS x h0 tl mo am).1 40 (nt x 24 0) = nI h0 ∧ (claS x h0 tl mo am).1 41 (nt x 24 0) = tl ∧ (claS x h0 tl mo am).1 42 (nt x 24 0) = mo ∧ (claS x h0 tl mo am).1 25 (nt x 24 0) = am ∧
    ∀ f j, f ≠ 40 → f ≠ 41 → f ≠ 42 → f ≠ 25 → (claS x h0 tl mo am).1 f j = x.1 f j := by
  unfold claS
  refine ⟨?_, ?_, ?_, ?_, fun f j a b c d => ?_⟩
  · rw [sI_o (fun z => absurd z.1 (by decide)), sI_o (fun z => absurd z.1 (by decide)), sI_o (fun z => absurd z.1 (by decide)), sI_1, if_pos ⟨rfl, rfl⟩]
  · rw [sI_o (fun z => absurd z.1 (by decide)), sI_o (fun z => absurd z.1 (by decide)), sI_1, if_pos ⟨rfl, rfl⟩]
  · rw [sI_o (fun z => absurd z.1 (by decide)), sI_1, if_pos ⟨rfl, rfl⟩]
  · rw [sI_1, if_pos ⟨rfl, rfl⟩]
  · rw [sI_o (fun z => d z.1), sI_o (fun z => c z.1), sI_o (fun z => b z.1), sI_o (fun z => a z.1)]
theorem cla_end {D : va_G} {A : Nat → Prop} {g : GG} {ad ad1 : Nat → Nat → Nat} {Mx : MM} {x x2 : St} {h0 q eN : Nat} {tl mo am : Int32} {F9 : Nat → Option Nat} {H : Heap} (hh : h0 < 50) (hls : lsOK x) (hcp : capOK x) (h12 : Mx 12 0 = none) (hx2 : claS x h0 tl mo am = x2) (ha : adP ad 10 (nt x 24 0) q = ad1)
    (hF : ∀ j, F9 j = if j < cN x2 2 + 1 then some (cElm ad1 2 j) else none) (h : mW D A (liM g (cwM g ad1 (mUp Mx 12 0 (q, .inr (7, [.ref (ad 7 h0), .int tl, .int mo, .int am]))) x2) 2 (ad1 5 2) (x2.1 53 2 + 1) eN (cN x2 2 + 1) (capN x2 2) F9) H) : mW D A (cwM g (adP ad1 6 2 eN) Mx (adS2 x2)) H := by
  obtain ⟨e14, e15, e16, e18, eo⟩ := cla_a (x := x) (h0 := h0) (tl := tl) (mo := mo) (am := am)
  rw [hx2] at e14 e15 e16 e18 eo
  have hn : nt x2 24 0 = nt x 24 0 := by unfold nt; rw [eo 24 0 (by decide) (by decide) (by decide) (by decide)]
  have hls2 : lsOK x2 := ls_of (eo 13 0 (by decide) (by decide) (by decide) (by decide)) (eo 19 0 (by decide) (by decide) (by decide) (by decide)) (eo 24 0 (by decide) (by decide) (by decide) (by decide)) (fun i => eo 54 i (by decide) (by decide) (by decide) (by decide)) hls
  have hcp2 : capOK x2 := cap_of (fun i => eo 54 i (by decide) (by decide) (by decide) (by decide)) hcp
  have hb := capN_b hls2 hcp2 (i := 2) (by decide)
  have hob : cClaim ad1 x2 (nt x2 24 0) = [.ref (ad 7 h0), .int tl, .int mo, .int am] := by
    rw [hn]
    have e14n : nt x2 40 (nt x 24 0) = h0 := by show (x2.1 40 (nt x 24 0)).toNatClampNeg = h0; rw [e14, nI_clamp (by omega)]
    unfold cClaim
    rw [e14n, e15, e16, e18, ← ha, adP_o (by omega)]
  have hq : ad1 10 (nt x2 24 0) = q := by rw [hn, ← ha, adP_s]
  rw [← hob, ← hq] at h
  exact addW_2 (hls_n x2 hls2).2.2.1 hb.1 hb.2 h12 hF h
theorem bor_a {x : St} {k : Nat} {dr mo : Int32} : (borS (bor0 x 3000) k dr mo).1 20 (nt x 19 0) = nI k ∧ (borS (bor0 x 3000) k dr mo).1 21 (nt x 19 0) = dr ∧ (borS (bor0 x 3000) k dr mo).1 22 (nt x 19 0) = mo ∧ (∀ j, j < 3000 → (borS (bor0 x 3000) k dr mo).1 23 (3000 * nt x 19 0 + j) = 0) ∧
    ∀ f j, f ≠ 20 → f ≠ 21 → f ≠ 22 → f ≠ 23 → (borS (bor0 x 3000) k dr mo).1 f j = x.1 f j := by
  have hn : nt (bor0 x 3000) 19 0 = nt x 19 0 := bor_n x 19 (by decide) 0
  have h23 := (bor0_o x 3000).2.2
  refine ⟨?_, ?_, ?_, fun j hj => ?_, fun f j a b c d => bor_eq x k dr mo f d a b c j⟩
  · unfold borS
    rw [hn, sI_o (fun z => absurd z.1 (by decide)), sI_o (fun z => absurd z.1 (by decide)), sI_1, if_pos ⟨rfl, rfl⟩]
  · unfold borS
    rw [hn, sI_o (fun z => absurd z.1 (by decide)), sI_1, if_pos ⟨rfl, rfl⟩]
  · unfold borS
    rw [hn, sI_1, if_pos ⟨rfl, rfl⟩]
  · unfold borS
    rw [sI_o (fun z => absurd z.1 (by decide)), sI_o (fun z => absurd z.1 (by decide)), sI_o (fun z => absurd z.1 (by decide)), h23, if_pos (by omega)]
theorem cw_up2 {g : GG} {ad : Nat → Nat → Nat} {Mx : MM} {x : St} {z w : Nat × va_E} : ∀ j k9 : Nat, cwM g ad (mUp (mUp Mx 13 0 z) 12 0 w) x j k9 = mUp (mUp (cwM g ad Mx x) 13 0 z) 12 0 w j k9 := by
  intro j k9
  rw [cw_up (by decide)]
  by_cases c9 : j = 12 ∧ k9 = 0
  · obtain ⟨rfl, rfl⟩ := c9
    rw [mUp_self, mUp_self]
  · rw [mUp_ne _ _ c9, mUp_ne _ _ c9]
    exact cw_up (by decide) z j k9
theorem bor_end {D : va_G} {A : Nat → Prop} {g : GG} {ad ad1 : Nat → Nat → Nat} {Mx : MM} {x x2 : St} {k q ra eN : Nat} {dr mo : Int32} {F9 : Nat → Option Nat} {H : Heap} (hk : k < 25) (hls : lsOK x) (hcp : capOK x) (h12 : Mx 12 0 = none) (h13 : Mx 13 0 = none) (hx2 : borS (bor0 x 3000) k dr mo = x2) (ha : adP (adP ad 8 (nt x 19 0) q) 9 (nt x 19 0) ra = ad1)
    (hF : ∀ j, F9 j = if j < cN x2 1 + 1 then some (cElm ad1 1 j) else none) (h : mW D A (liM g (cwM g ad1 (mUp (mUp Mx 13 0 (ra, .inl (g.2.1 0, 3000, .inl (fun _ => 0)))) 12 0 (q, .inr (6, [.ref (ad 2 k), .int dr, .int mo, .ref ra]))) x2) 1 (ad1 5 1) (x2.1 53 1 + 1) eN (cN x2 1 + 1) (capN x2 1) F9) H) : mW D A (cwM g (adP ad1 6 1 eN) Mx (adS1 x2)) H := by
  obtain ⟨e14, e15, e16, e23, eo⟩ := bor_a (x := x) (k := k) (dr := dr) (mo := mo)
  rw [hx2] at e14 e15 e16 e23 eo
  have hn : nt x2 19 0 = nt x 19 0 := by unfold nt; rw [eo 19 0 (by decide) (by decide) (by decide) (by decide)]
  have hls2 : lsOK x2 := ls_of (eo 13 0 (by decide) (by decide) (by decide) (by decide)) (eo 19 0 (by decide) (by decide) (by decide) (by decide)) (eo 24 0 (by decide) (by decide) (by decide) (by decide)) (fun i => eo 54 i (by decide) (by decide) (by decide) (by decide)) hls
  have hcp2 : capOK x2 := cap_of (fun i => eo 54 i (by decide) (by decide) (by decide) (by decide)) hcp
  have hb := capN_b hls2 hcp2 (i := 1) (by decide)
  have hr : ad1 9 (nt x2 19 0) = ra := by rw [hn, ← ha, adP_s]
  have hq : ad1 8 (nt x2 19 0) = q := by rw [hn, ← ha, adP_o (by omega), adP_s]
  have hob : cHole ad1 x2 (nt x2 19 0) = [.ref (ad 2 k), .int dr, .int mo, .ref ra] := by
    have e14n : nt x2 20 (nt x 19 0) = k := by show (x2.1 20 (nt x 19 0)).toNatClampNeg = k; rw [e14, nI_clamp (by omega)]
    unfold cHole
    rw [hr, hn, e14n, e15, e16, ← ha, adP_o (by omega), adP_o (by omega)]
  have hrd : cRead x2 (nt x2 19 0) = fun _ => 0 := by
    funext j
    unfold cRead
    rw [hn]
    by_cases hj : j < 3000
    · rw [if_pos hj, e23 j hj]
    · rw [if_neg hj]
  rw [← hob, ← hq, ← hrd] at h
  rw [show ra = ad1 9 (nt x2 19 0) from hr.symm] at h
  exact addW_1 (hls_n x2 hls2).2.1 hb.1 hb.2 h12 h13 hF h
def chsW (x : St) (k : Nat) : Int32 := (if x.1 52 k = (-1) then (if (clkF x k) = 0 then (if 10 ≤ (nI (nt x 13 0)) then 0 else 1) else 0) else 0 : Int32)
def cboW (x : St) : Int32 := (if 10 ≤ (nI (nt x 19 0)) then 0 else 1 : Int32)
def ccmW (x : St) : Int32 := (if 40 ≤ (nI (nt x 24 0)) then 0 else 1 : Int32)
abbrev rm_X1_house_ok : Room := { frames := 7, cells := 2, slots := 105, locals := 191 }
set_option maxHeartbeats 1000000 in
theorem k_X1_house_ok (l : Launch) (g : GG) (A : Nat → Prop) (ad : Nat → Nat → Nat) (Mx : MM) (x : St) (hls : lsOK x) (hcp : capOK x) (hho : hoOK x) (hcl : clOK x) (h12 : Mx 12 0 = none) (h13 : Mx 13 0 = none) (h14 : Mx 14 0 = none) (k : Nat) (hk : k < 25) (a1 a2 : Int32) (h1 : inF a1 1 4 = 1) (hz9 : narrow .boolean (.int a2) = .int a2) (hz8 : fits .boolean (.int a2) = true) (hw : chsW x k = 1) : Met l yX1_house (ws_ yX1_house cX1_house 5 (some .int)) rm_X1_house_ok (va_Pc [.ref (ad 0 0), .int (nI k), .int a1, .int a2] (mPre g A (cwM g ad Mx x))) (va_Qi (fun (r : Int32) (ad2 : Nat → Nat → Nat) => r = nI (nt x 13 0 + 1) - 1 ∧ ad2 0 0 = ad 0 0) (fun ad2 t => mW g.1 A (cwM g ad2 Mx (chsF x k a1 a2)) t.heap) A) 2 105 A := by
  refine m_start RX1 rfl (by decide) (Nat.le_of_ble_eq_true rfl) ?_
  intro p e s m args below meth c hcf hr hlk hnm hE hA H locs hM hS ls hl
  have hx := hcf.1
  have hb := hcf.2.1
  have hml := hcf.2.2.1
  have hown := hcf.2.2.2.1
  have hts := hcf.2.2.2.2
  have hl : lv_has ls 5 [(0, .ref (ad 0 0)), (1, .int (nI k)), (2, .int a1), (3, .int a2)] := hl
  obtain ⟨hb13, hb19, hb24, hs0, hs1, hs2⟩ := hls_n x hls
  generalize hQ : MQ below (va_Qi (fun (r : Int32) (ad2 : Nat → Nat → Nat) => r = nI (nt x 13 0 + 1) - 1 ∧ ad2 0 0 = ad 0 0) (fun ad2 t => mW g.1 A (cwM g ad2 Mx (chsF x k a1 a2)) t.heap) A) args s 2 105 A = Q
  refine lv_aload_n hx hb dX1_house_0 rfl (lv_at hl 0 rfl) ?_
  refine lv_iload_n hx hb dX1_house_1 rfl (lv_at hl 1 rfl) ?_
  refine m_cpr (m_rV (As := [.int (nI k)]) (rest := []) hcf (k_X1_cellAt_ok l g A ad Mx x k (by omega)) (cwV 1 hts (lw_V q416 q418 qs7 q35 q419) rfl rfl rfl (by decide +kernel) ⟨Nat.le_of_ble_eq_true rfl, Nat.le_of_ble_eq_true rfl⟩) hE hA hM hS 0 0 cw_0 (ci := 0) rfl rfl hl.1 rfl (Nat.le_of_ble_eq_true rfl) dX1_house_2 ⟨Nat.le_of_ble_eq_true rfl, Nat.le_of_ble_eq_true rfl⟩) hS (fun H locs hM hS => ?_)
  refine lv_astore (lv' := [(4, .ref (ad 2 k)), (0, .ref (ad 0 0)), (1, .int (nI k)), (2, .int a1), (3, .int a2)]) hx hb dX1_house_5 hl (by decide) rfl (fun ls hl => ?_)
  refine lv_iload_n hx hb dX1_house_7 rfl (lv_at hl 3 rfl) ?_
  refine lv_iconst (v := 1) hx hb dX1_house_8 (by decide) ?_
  refine lv_iconst (v := 4) hx hb dX1_house_9 (by decide) ?_
  refine m_cpi (m_rS (As := [.int a1, .int 1, .int 4]) (rest := []) hcf (k_X1_isIn l g A (cwM g ad Mx x) a1 1 4) (va_cwS 3 hts (lw_S q420 q421 q35 q422) rfl rfl rfl (by decide +kernel) ⟨Nat.le_of_ble_eq_true rfl, Nat.le_of_ble_eq_true rfl⟩) hE hA hM hS rfl hl.1 rfl (Nat.le_of_ble_eq_true rfl) dX1_house_10 ⟨Nat.le_of_ble_eq_true rfl, Nat.le_of_ble_eq_true rfl⟩) hS (fun H locs hM hS => ?_)
  refine m_topI (y := 1) (h1) ?_
  refine m_cpv (m_rS (As := [.int 1]) (rest := []) hcf (k_X1_known_ok l g A (cwM g ad Mx x)) (va_cwS 1 hts (lw_S q423 q424 q35 q425) rfl rfl rfl (by decide +kernel) ⟨Nat.le_of_ble_eq_true rfl, Nat.le_of_ble_eq_true rfl⟩) hE hA hM hS rfl hl.1 rfl (Nat.le_of_ble_eq_true rfl) dX1_house_13 ⟨Nat.le_of_ble_eq_true rfl, Nat.le_of_ble_eq_true rfl⟩) hS (fun H locs hM hS => ?_)
  refine lv_aload hx hb dX1_house_16 (lv_at hl 0 rfl) ?_
  refine m_get hx hb hts in_X2 hown hE hM 2 k (cw_2 (by omega)) (ci := 2) rfl 7 (by decide) (hts _ q152) (fun _ h9 => h9) rfl dX1_house_18 ?_
  have J_14 : ∀ (H : Heap) (locs : List Loc) (v_12 : Int32), mW g.1 A (cwM g ad Mx x) H → va_S A s.heap H locs → ((if x.1 52 k = (-1) then (if (clkF x k) = 0 then (if 10 ≤ (nI (nt x 13 0)) then 0 else 1) else 0) else 0) = v_12) → W p l e rm_X1_house_ok s m args below meth c H locs 0 0 Q (F0 m 49 ls [.int v_12]) := by
    intro H locs v_12 hM hS ev_13
    refine m_topI (y := 1) ((by subst ev_13; exact hw)) ?_
    refine m_cpv (m_rS (As := [.int 1]) (rest := []) hcf (k_X1_allowed_ok l g A (cwM g ad Mx x)) (va_cwS 1 hts (lw_S q473 q474 q35 q475) rfl rfl rfl (by decide +kernel) ⟨Nat.le_of_ble_eq_true rfl, Nat.le_of_ble_eq_true rfl⟩) hE hA hM hS rfl hl.1 rfl (Nat.le_of_ble_eq_true rfl) dX1_house_49 ⟨Nat.le_of_ble_eq_true rfl, Nat.le_of_ble_eq_true rfl⟩) hS (fun H locs hM hS => ?_)
    refine lv_aload hx hb dX1_house_52 (lv_at hl 0 rfl) ?_
    refine m_new hx hb hts in_X6 tyX6 tyX6_ok hown (hts _ q593) (hts _ q657) (hts _ q58) hE hM hS hA 12 0 (by rw [cw_ext (by decide)]; exact h12) (ci := 5) rfl (fs := [.null, .int 0, .int 0, .int 0, .int 0]) ho_fs (Nat.le_of_ble_eq_true rfl) (Nat.le_of_ble_eq_true rfl) dX1_house_54 (fun q_16 H h_q_16 hM hS => ?_)
    have hM := cwUp (by decide) hM
    refine lv_dup hx hb dX1_house_57 rfl ?_
    refine lv_aload hx hb dX1_house_58 (lv_at hl 0 rfl) ?_
    refine lv_iload_n hx hb dX1_house_60 rfl (lv_at hl 3 rfl) ?_
    refine lv_iload_n hx hb dX1_house_61 rfl (lv_at hl 4 rfl) ?_
    refine lv_aload_n hx hb dX1_house_62 rfl (lv_at hl 1 rfl) ?_
    refine m_get hx hb hts in_X1 hown hE hM 0 0 cw_0 (ci := 0) rfl 7 (by decide) (hts _ q187) (fun _ h9 => h9) rfl dX1_house_63 ?_
    refine m_cpv (m_rI (As := [.ref (ad 2 k), .int a1, .int a2, .int (x.1 1 0)]) (rest := [.ref q_16, .ref (ad 2 k)]) hcf (k_X6_init l g A (cwM g ad Mx x) 12 0 q_16 (ad 2 k) a1 a2 (x.1 1 0) hz9 hz8) (cwI 4 hts (lw_meth q660) rfl rfl rfl (hts _ q58) (hts _ q658) (hts _ q659) rfl (by decide +kernel) ⟨Nat.le_of_ble_eq_true rfl, Nat.le_of_ble_eq_true rfl⟩) hE hA (upCw (by decide) hM) hS rfl hl.1 rfl (Nat.le_of_ble_eq_true rfl) dX1_house_66 ⟨Nat.le_of_ble_eq_true rfl, Nat.le_of_ble_eq_true rfl⟩) hS (fun H locs hM hS => ?_)
    have hM := cwUp (by decide) hM
    have hM : mW g.1 A (cwM g (adP ad 7 (nt x 13 0) q_16) (mUp Mx 12 0 (q_16, .inr (5, [.ref (ad 2 k), .int a1, .int a2, .int (x.1 1 0), .int 0]))) (houS x k a1 a2 (x.1 1 0))) H := hM.congr (houM q_16 k a1 a2 (x.1 1 0) hho hcl)
    obtain ⟨x_18, ex_19⟩ : ∃ z : St, houS x k a1 a2 (x.1 1 0) = z := ⟨_, rfl⟩
    rw [ex_19] at hM
    refine cc_puth hcf hE hM hS k (nt x 13 0) hk hb13 (adP_s _ _ _ _) q152 dX1_house_69 (fun x_21 H locs ex_22 hM hS => ?_)
    refine lv_aload_n hx hb dX1_house_72 rfl (lv_at hl 1 rfl) ?_
    refine m_get hx hb hts in_X1 hown hE hM 0 0 cw_0 (ci := 0) rfl 1 (by decide) (hts _ q180) (fun _ h9 => h9) rfl dX1_house_73 ?_
    refine lv_aload hx hb dX1_house_76 (lv_at hl 0 rfl) ?_
    refine m_get hx hb hts in_X2 hown hE hM 2 k (cw_2 (by omega)) (ci := 2) rfl 7 (by decide) (hts _ q152) (fun _ h9 => h9) rfl dX1_house_78 ?_
    refine m_topV (w := .ref q_16) (by rw [← ex_22]; exact cHou_nI hb13 (adP_s _ _ _ _)) ?_
    have eo := (hou_a (x := x) (k := k) (pl := a1) (co := a2) (mo := x.1 1 0) (nI (nt x 13 0))).2.2.2.2.2
    rw [ex_19, ex_22] at eo
    have hls2 : lsOK x_21 := ls_of (eo 13 0 (by decide) (by decide) (by decide) (by decide) (by decide) (by decide)) (eo 19 0 (by decide) (by decide) (by decide) (by decide) (by decide) (by decide)) (eo 24 0 (by decide) (by decide) (by decide) (by decide) (by decide) (by decide)) (fun i => eo 54 i (by decide) (by decide) (by decide) (by decide) (by decide) (by decide)) hls
    have hcp2 : capOK x_21 := cap_of (fun i => eo 54 i (by decide) (by decide) (by decide) (by decide) (by decide) (by decide)) hcp
    have hn2 : nt x_21 13 0 = nt x 13 0 := by unfold nt; rw [eo 13 0 (by decide) (by decide) (by decide) (by decide) (by decide) (by decide)]
    have hb2 : nt x_21 13 0 < 50 := by rw [hn2]; exact hb13
    have hqe : q_16 = cElm (adP ad 7 (nt x 13 0) q_16) 0 (cN x_21 0) := by rw [show cN x_21 0 = nt x 13 0 from hn2]; exact (adP_s ad 7 (nt x 13 0) q_16).symm
    refine m_add (rest := []) hcf (cwV 1 hts (lw_V q681 q682 q683 q38 q684) rfl rfl rfl (by decide +kernel) ⟨Nat.le_of_ble_eq_true rfl, Nat.le_of_ble_eq_true rfl⟩) (cwV 1 hts (lw_V q681 q682 q683 q38 q684) rfl rfl rfl (by decide +kernel) ⟨Nat.le_of_ble_eq_true rfl, Nat.le_of_ble_eq_true rfl⟩) (cwV 1 hts (lw_V q681 q682 q683 q38 q684) rfl rfl rfl (by decide +kernel) ⟨Nat.le_of_ble_eq_true rfl, Nat.le_of_ble_eq_true rfl⟩) hE hA hM hS hls2 hcp2 0 (by decide) (mUp_self _ _ _ _) rfl (w := 8) rfl (by rw [mUp_ne _ _ (by omega)]; exact h14) hqe hl.1 (Nat.le_of_ble_eq_true rfl) dX1_house_81 (Nat.le_of_ble_eq_true rfl) (Nat.le_of_ble_eq_true rfl) (fun eN F9 H locs hF9 hM hS => ?_)
    have hM := hou_end hk hls hcp h12 (by rw [ex_19]; exact ex_22) rfl hF9 hM
    obtain ⟨x_24, ex_25⟩ : ∃ z : St, adS0 x_21 = z := ⟨_, rfl⟩
    rw [ex_25] at hM
    have hs9 : cCnt x_24 0 = nI (nt x 13 0 + 1) := by rw [← ex_25, (cCnt0_o _ hb2).1, hn2]
    refine lv_pop hx hb dX1_house_84 rfl ?_
    refine lv_aload_n hx hb dX1_house_85 rfl (lv_at hl 1 rfl) ?_
    refine m_get hx hb hts in_X1 hown hE hM 0 0 cw_0 (ci := 0) rfl 1 (by decide) (hts _ q180) (fun _ h9 => h9) rfl dX1_house_86 ?_
    refine m_cpi (m_rV (As := []) (rest := []) hcf (k_J2_size l g A (adP (adP ad 7 (nt x 13 0) q_16) 6 0 eN) Mx x_24 0 (by omega)) (cwV 0 hts (lw_V q575 q576 q577 q38 q578) rfl rfl rfl (by decide +kernel) ⟨Nat.le_of_ble_eq_true rfl, Nat.le_of_ble_eq_true rfl⟩) hE hA hM hS 5 0 (cw_5 (by omega)) (ci := 8) rfl rfl hl.1 rfl (Nat.le_of_ble_eq_true rfl) dX1_house_89 ⟨Nat.le_of_ble_eq_true rfl, Nat.le_of_ble_eq_true rfl⟩) hS (fun H locs hM hS => ?_)
    refine m_topI (y := nI (nt x 13 0 + 1)) (hs9) ?_
    refine lv_iconst (v := 1) hx hb dX1_house_92 (by decide) ?_
    refine lv_isub hx hb dX1_house_93 ?_
    rw [← hQ]
    exact m_iret (adP (adP ad 7 (nt x 13 0) q_16) 6 0 eN) hx hb hr rfl hlk (by rw [← ex_25, ← ex_22, ← ex_19] at hM; exact hM) hS ⟨rfl, rfl⟩ (by first | decide | omega) (by first | decide | omega) dX1_house_94
  refine ch_ifnonnull (tgt := 48) hx hb dX1_house_21 (by decide) (fun c_7 => ?_) (fun c_7 => ?_)
  · refine lv_iconst (v := 0) hx hb dX1_house_48 (by decide) ?_
    exact J_14 H locs _ hM hS (by first | (rw [if_neg c_7]) | rfl | (simp only [c_7, if_true, if_false, ite_true, ite_false, not_false_eq_true, reduceIte]))
  · refine lv_aload hx hb dX1_house_24 (lv_at hl 0 rfl) ?_
    refine m_cpi (m_rV (As := []) (rest := []) hcf (k_X2_isLake l g A ad Mx x k (by omega)) (cwV 0 hts (lw_V q367 q368 q369 q39 q370) rfl rfl rfl (by decide +kernel) ⟨Nat.le_of_ble_eq_true rfl, Nat.le_of_ble_eq_true rfl⟩) hE hA hM hS 2 k (cw_2 (by omega)) (ci := 2) rfl rfl hl.1 rfl (Nat.le_of_ble_eq_true rfl) dX1_house_26 ⟨Nat.le_of_ble_eq_true rfl, Nat.le_of_ble_eq_true rfl⟩) hS (fun H locs hM hS => ?_)
    refine lv_if_ne (tgt := 48) hx hb dX1_house_29 (by decide) (fun c_9 => ?_) (fun c_9 => ?_)
    · refine lv_iconst (v := 0) hx hb dX1_house_48 (by decide) ?_
      exact J_14 H locs _ hM hS (by first | (rw [if_pos c_7, if_neg c_9]) | rfl | (simp only [c_7, c_9, if_true, if_false, ite_true, ite_false, not_false_eq_true, reduceIte]))
    · refine lv_aload_n hx hb dX1_house_32 rfl (lv_at hl 1 rfl) ?_
      refine m_get hx hb hts in_X1 hown hE hM 0 0 cw_0 (ci := 0) rfl 1 (by decide) (hts _ q180) (fun _ h9 => h9) rfl dX1_house_33 ?_
      refine m_cpi (m_rV (As := []) (rest := []) hcf (k_J2_size l g A ad Mx x 0 (by omega)) (cwV 0 hts (lw_V q575 q576 q577 q38 q578) rfl rfl rfl (by decide +kernel) ⟨Nat.le_of_ble_eq_true rfl, Nat.le_of_ble_eq_true rfl⟩) hE hA hM hS 5 0 (cw_5 (by omega)) (ci := 8) rfl rfl hl.1 rfl (Nat.le_of_ble_eq_true rfl) dX1_house_36 ⟨Nat.le_of_ble_eq_true rfl, Nat.le_of_ble_eq_true rfl⟩) hS (fun H locs hM hS => ?_)
      refine m_topI (y := nI (nt x 13 0)) (hs0) ?_
      refine lv_bipush (v := 10) hx hb dX1_house_39 (by decide) ?_
      refine lv_icmp_ge (tgt := 48) hx hb dX1_house_41 (by decide) (fun c_11 => ?_) (fun c_11 => ?_)
      · refine lv_iconst (v := 0) hx hb dX1_house_48 (by decide) ?_
        exact J_14 H locs _ hM hS (by first | (rw [if_pos c_7, if_pos c_9, if_pos c_11]) | rfl | (simp only [c_7, c_9, c_11, if_true, if_false, ite_true, ite_false, not_false_eq_true, reduceIte]))
      · refine lv_iconst (v := 1) hx hb dX1_house_44 (by decide) ?_
        refine lv_goto (tgt := 49) hx hb dX1_house_45 (by decide) ?_
        exact J_14 H locs _ hM hS (by first | (rw [if_pos c_7, if_pos c_9, if_neg c_11]) | rfl | (simp only [c_7, c_9, c_11, if_true, if_false, ite_true, ite_false, not_false_eq_true, reduceIte]))

abbrev rm_X1_house_n1 : Room := { frames := 8, cells := 1, slots := 6, locals := 123 }
set_option maxHeartbeats 400000 in
theorem k_X1_house_n1 (l : Launch) (g : GG) (A : Nat → Prop) (hlt : l.stackTraces = false) (ad : Nat → Nat → Nat) (Mx : MM) (x : St) (hls : lsOK x) (a0 a1 a2 : Int32) (h0 : inF a0 0 24 = 0) : vx_Met l yX1_house (ws_ yX1_house cX1_house 5 (some .int)) rm_X1_house_n1 (va_Pc [.ref (ad 0 0), .int a0, .int a1, .int a2] (mPre g A (cwM g ad Mx x))) pNo (mX g A "java/lang/IndexOutOfBoundsException" (cwM g ad Mx x)) 1 6 A := by
  refine m_startX RX1 rfl (by decide) (Nat.le_of_ble_eq_true rfl) ?_
  intro p e s m args below meth c hcf hr hlk hnm hE hA ht H locs hM hS ls hl
  have hx := hcf.1
  have hb := hcf.2.1
  have hml := hcf.2.2.1
  have hown := hcf.2.2.2.1
  have hts := hcf.2.2.2.2
  have hl : lv_has ls 5 [(0, .ref (ad 0 0)), (1, .int a0), (2, .int a1), (3, .int a2)] := hl
  generalize hQ : vx_MQ below pNo (mX g A "java/lang/IndexOutOfBoundsException" (cwM g ad Mx x)) args s 1 6 A = Q
  refine lv_aload_n hx hb dX1_house_0 rfl (lv_at hl 0 rfl) ?_
  refine lv_iload_n hx hb dX1_house_1 rfl (lv_at hl 1 rfl) ?_
  rw [← hQ]
  exact m_xend (m_xV (As := [.int a0]) (rest := []) hcf (k_X1_cellAt_no l g A hlt ad Mx x a0 h0) (cwV 1 hts (lw_V q416 q418 qs7 q35 q419) rfl rfl rfl (by decide +kernel) ⟨Nat.le_of_ble_eq_true rfl, Nat.le_of_ble_eq_true rfl⟩) hE hA hM hS 0 0 cw_0 (ci := 0) rfl rfl hl.1 rfl (Nat.le_of_ble_eq_true rfl) dX1_house_2 ⟨Nat.le_of_ble_eq_true rfl, Nat.le_of_ble_eq_true rfl⟩) ht hlk hS (Nat.le_of_ble_eq_true rfl) (Nat.le_of_ble_eq_true rfl)

abbrev rm_X1_house_n2 : Room := { frames := 7, cells := 1, slots := 6, locals := 102 }
set_option maxHeartbeats 400000 in
theorem k_X1_house_n2 (l : Launch) (g : GG) (A : Nat → Prop) (hlt : l.stackTraces = false) (ad : Nat → Nat → Nat) (Mx : MM) (x : St) (hls : lsOK x) (k : Nat) (hk : k < 25) (a1 a2 : Int32) (h1 : inF a1 1 4 = 0) : vx_Met l yX1_house (ws_ yX1_house cX1_house 5 (some .int)) rm_X1_house_n2 (va_Pc [.ref (ad 0 0), .int (nI k), .int a1, .int a2] (mPre g A (cwM g ad Mx x))) pNo (mX g A "java/lang/IndexOutOfBoundsException" (cwM g ad Mx x)) 1 6 A := by
  refine m_startX RX1 rfl (by decide) (Nat.le_of_ble_eq_true rfl) ?_
  intro p e s m args below meth c hcf hr hlk hnm hE hA ht H locs hM hS ls hl
  have hx := hcf.1
  have hb := hcf.2.1
  have hml := hcf.2.2.1
  have hown := hcf.2.2.2.1
  have hts := hcf.2.2.2.2
  have hl : lv_has ls 5 [(0, .ref (ad 0 0)), (1, .int (nI k)), (2, .int a1), (3, .int a2)] := hl
  generalize hQ : vx_MQ below pNo (mX g A "java/lang/IndexOutOfBoundsException" (cwM g ad Mx x)) args s 1 6 A = Q
  refine lv_aload_n hx hb dX1_house_0 rfl (lv_at hl 0 rfl) ?_
  refine lv_iload_n hx hb dX1_house_1 rfl (lv_at hl 1 rfl) ?_
  refine m_cpr (m_rV (As := [.int (nI k)]) (rest := []) hcf (k_X1_cellAt_ok l g A ad Mx x k (by omega)) (cwV 1 hts (lw_V q416 q418 qs7 q35 q419) rfl rfl rfl (by decide +kernel) ⟨Nat.le_of_ble_eq_true rfl, Nat.le_of_ble_eq_true rfl⟩) hE hA hM hS 0 0 cw_0 (ci := 0) rfl rfl hl.1 rfl (Nat.le_of_ble_eq_true rfl) dX1_house_2 ⟨Nat.le_of_ble_eq_true rfl, Nat.le_of_ble_eq_true rfl⟩) hS (fun H locs hM hS => ?_)
  refine lv_astore (lv' := [(4, .ref (ad 2 k)), (0, .ref (ad 0 0)), (1, .int (nI k)), (2, .int a1), (3, .int a2)]) hx hb dX1_house_5 hl (by decide) rfl (fun ls hl => ?_)
  refine lv_iload_n hx hb dX1_house_7 rfl (lv_at hl 3 rfl) ?_
  refine lv_iconst (v := 1) hx hb dX1_house_8 (by decide) ?_
  refine lv_iconst (v := 4) hx hb dX1_house_9 (by decide) ?_
  refine m_cpi (m_rS (As := [.int a1, .int 1, .int 4]) (rest := []) hcf (k_X1_isIn l g A (cwM g ad Mx x) a1 1 4) (va_cwS 3 hts (lw_S q420 q421 q35 q422) rfl rfl rfl (by decide +kernel) ⟨Nat.le_of_ble_eq_true rfl, Nat.le_of_ble_eq_true rfl⟩) hE hA hM hS rfl hl.1 rfl (Nat.le_of_ble_eq_true rfl) dX1_house_10 ⟨Nat.le_of_ble_eq_true rfl, Nat.le_of_ble_eq_true rfl⟩) hS (fun H locs hM hS => ?_)
  refine m_topI (y := 0) (h1) ?_
  rw [← hQ]
  exact m_xend (m_xS (As := [.int 0]) (rest := []) hcf (k_X1_known_no l g A hlt (cwM g ad Mx x)) (va_cwS 1 hts (lw_S q423 q424 q35 q425) rfl rfl rfl (by decide +kernel) ⟨Nat.le_of_ble_eq_true rfl, Nat.le_of_ble_eq_true rfl⟩) hE hA hM hS rfl hl.1 rfl (Nat.le_of_ble_eq_true rfl) dX1_house_13 ⟨Nat.le_of_ble_eq_true rfl, Nat.le_of_ble_eq_true rfl⟩) ht hlk hS (Nat.le_of_ble_eq_true rfl) (Nat.le_of_ble_eq_true rfl)

abbrev rm_X1_house_n3 : Room := { frames := 7, cells := 1, slots := 6, locals := 102 }
set_option maxHeartbeats 400000 in
theorem k_X1_house_n3 (l : Launch) (g : GG) (A : Nat → Prop) (hlt : l.stackTraces = false) (ad : Nat → Nat → Nat) (Mx : MM) (x : St) (hls : lsOK x) (k : Nat) (hk : k < 25) (a1 a2 : Int32) (h1 : inF a1 1 4 = 1) (hw : chsW x k = 0) : vx_Met l yX1_house (ws_ yX1_house cX1_house 5 (some .int)) rm_X1_house_n3 (va_Pc [.ref (ad 0 0), .int (nI k), .int a1, .int a2] (mPre g A (cwM g ad Mx x))) pNo (mX g A "java/lang/IllegalStateException" (cwM g ad Mx x)) 1 6 A := by
  refine m_startX RX1 rfl (by decide) (Nat.le_of_ble_eq_true rfl) ?_
  intro p e s m args below meth c hcf hr hlk hnm hE hA ht H locs hM hS ls hl
  have hx := hcf.1
  have hb := hcf.2.1
  have hml := hcf.2.2.1
  have hown := hcf.2.2.2.1
  have hts := hcf.2.2.2.2
  have hl : lv_has ls 5 [(0, .ref (ad 0 0)), (1, .int (nI k)), (2, .int a1), (3, .int a2)] := hl
  obtain ⟨hb13, hb19, hb24, hs0, hs1, hs2⟩ := hls_n x hls
  generalize hQ : vx_MQ below pNo (mX g A "java/lang/IllegalStateException" (cwM g ad Mx x)) args s 1 6 A = Q
  refine lv_aload_n hx hb dX1_house_0 rfl (lv_at hl 0 rfl) ?_
  refine lv_iload_n hx hb dX1_house_1 rfl (lv_at hl 1 rfl) ?_
  refine m_cpr (m_rV (As := [.int (nI k)]) (rest := []) hcf (k_X1_cellAt_ok l g A ad Mx x k (by omega)) (cwV 1 hts (lw_V q416 q418 qs7 q35 q419) rfl rfl rfl (by decide +kernel) ⟨Nat.le_of_ble_eq_true rfl, Nat.le_of_ble_eq_true rfl⟩) hE hA hM hS 0 0 cw_0 (ci := 0) rfl rfl hl.1 rfl (Nat.le_of_ble_eq_true rfl) dX1_house_2 ⟨Nat.le_of_ble_eq_true rfl, Nat.le_of_ble_eq_true rfl⟩) hS (fun H locs hM hS => ?_)
  refine lv_astore (lv' := [(4, .ref (ad 2 k)), (0, .ref (ad 0 0)), (1, .int (nI k)), (2, .int a1), (3, .int a2)]) hx hb dX1_house_5 hl (by decide) rfl (fun ls hl => ?_)
  refine lv_iload_n hx hb dX1_house_7 rfl (lv_at hl 3 rfl) ?_
  refine lv_iconst (v := 1) hx hb dX1_house_8 (by decide) ?_
  refine lv_iconst (v := 4) hx hb dX1_house_9 (by decide) ?_
  refine m_cpi (m_rS (As := [.int a1, .int 1, .int 4]) (rest := []) hcf (k_X1_isIn l g A (cwM g ad Mx x) a1 1 4) (va_cwS 3 hts (lw_S q420 q421 q35 q422) rfl rfl rfl (by decide +kernel) ⟨Nat.le_of_ble_eq_true rfl, Nat.le_of_ble_eq_true rfl⟩) hE hA hM hS rfl hl.1 rfl (Nat.le_of_ble_eq_true rfl) dX1_house_10 ⟨Nat.le_of_ble_eq_true rfl, Nat.le_of_ble_eq_true rfl⟩) hS (fun H locs hM hS => ?_)
  refine m_topI (y := 1) (h1) ?_
  refine m_cpv (m_rS (As := [.int 1]) (rest := []) hcf (k_X1_known_ok l g A (cwM g ad Mx x)) (va_cwS 1 hts (lw_S q423 q424 q35 q425) rfl rfl rfl (by decide +kernel) ⟨Nat.le_of_ble_eq_true rfl, Nat.le_of_ble_eq_true rfl⟩) hE hA hM hS rfl hl.1 rfl (Nat.le_of_ble_eq_true rfl) dX1_house_13 ⟨Nat.le_of_ble_eq_true rfl, Nat.le_of_ble_eq_true rfl⟩) hS (fun H locs hM hS => ?_)
  refine lv_aload hx hb dX1_house_16 (lv_at hl 0 rfl) ?_
  refine m_get hx hb hts in_X2 hown hE hM 2 k (cw_2 (by omega)) (ci := 2) rfl 7 (by decide) (hts _ q152) (fun _ h9 => h9) rfl dX1_house_18 ?_
  have J_14 : ∀ (H : Heap) (locs : List Loc) (v_12 : Int32), mW g.1 A (cwM g ad Mx x) H → va_S A s.heap H locs → ((if x.1 52 k = (-1) then (if (clkF x k) = 0 then (if 10 ≤ (nI (nt x 13 0)) then 0 else 1) else 0) else 0) = v_12) → W p l e rm_X1_house_n3 s m args below meth c H locs 0 0 Q (F0 m 49 ls [.int v_12]) := by
    intro H locs v_12 hM hS ev_13
    refine m_topI (y := 0) ((by subst ev_13; exact hw)) ?_
    rw [← hQ]
    exact m_xend (m_xS (As := [.int 0]) (rest := []) hcf (k_X1_allowed_no l g A hlt (cwM g ad Mx x)) (va_cwS 1 hts (lw_S q473 q474 q35 q475) rfl rfl rfl (by decide +kernel) ⟨Nat.le_of_ble_eq_true rfl, Nat.le_of_ble_eq_true rfl⟩) hE hA hM hS rfl hl.1 rfl (Nat.le_of_ble_eq_true rfl) dX1_house_49 ⟨Nat.le_of_ble_eq_true rfl, Nat.le_of_ble_eq_true rfl⟩) ht hlk hS (Nat.le_of_ble_eq_true rfl) (Nat.le_of_ble_eq_true rfl)
  refine ch_ifnonnull (tgt := 48) hx hb dX1_house_21 (by decide) (fun c_7 => ?_) (fun c_7 => ?_)
  · refine lv_iconst (v := 0) hx hb dX1_house_48 (by decide) ?_
    exact J_14 H locs _ hM hS (by first | (rw [if_neg c_7]) | rfl | (simp only [c_7, if_true, if_false, ite_true, ite_false, not_false_eq_true, reduceIte]))
  · refine lv_aload hx hb dX1_house_24 (lv_at hl 0 rfl) ?_
    refine m_cpi (m_rV (As := []) (rest := []) hcf (k_X2_isLake l g A ad Mx x k (by omega)) (cwV 0 hts (lw_V q367 q368 q369 q39 q370) rfl rfl rfl (by decide +kernel) ⟨Nat.le_of_ble_eq_true rfl, Nat.le_of_ble_eq_true rfl⟩) hE hA hM hS 2 k (cw_2 (by omega)) (ci := 2) rfl rfl hl.1 rfl (Nat.le_of_ble_eq_true rfl) dX1_house_26 ⟨Nat.le_of_ble_eq_true rfl, Nat.le_of_ble_eq_true rfl⟩) hS (fun H locs hM hS => ?_)
    refine lv_if_ne (tgt := 48) hx hb dX1_house_29 (by decide) (fun c_9 => ?_) (fun c_9 => ?_)
    · refine lv_iconst (v := 0) hx hb dX1_house_48 (by decide) ?_
      exact J_14 H locs _ hM hS (by first | (rw [if_pos c_7, if_neg c_9]) | rfl | (simp only [c_7, c_9, if_true, if_false, ite_true, ite_false, not_false_eq_true, reduceIte]))
    · refine lv_aload_n hx hb dX1_house_32 rfl (lv_at hl 1 rfl) ?_
      refine m_get hx hb hts in_X1 hown hE hM 0 0 cw_0 (ci := 0) rfl 1 (by decide) (hts _ q180) (fun _ h9 => h9) rfl dX1_house_33 ?_
      refine m_cpi (m_rV (As := []) (rest := []) hcf (k_J2_size l g A ad Mx x 0 (by omega)) (cwV 0 hts (lw_V q575 q576 q577 q38 q578) rfl rfl rfl (by decide +kernel) ⟨Nat.le_of_ble_eq_true rfl, Nat.le_of_ble_eq_true rfl⟩) hE hA hM hS 5 0 (cw_5 (by omega)) (ci := 8) rfl rfl hl.1 rfl (Nat.le_of_ble_eq_true rfl) dX1_house_36 ⟨Nat.le_of_ble_eq_true rfl, Nat.le_of_ble_eq_true rfl⟩) hS (fun H locs hM hS => ?_)
      refine m_topI (y := nI (nt x 13 0)) (hs0) ?_
      refine lv_bipush (v := 10) hx hb dX1_house_39 (by decide) ?_
      refine lv_icmp_ge (tgt := 48) hx hb dX1_house_41 (by decide) (fun c_11 => ?_) (fun c_11 => ?_)
      · refine lv_iconst (v := 0) hx hb dX1_house_48 (by decide) ?_
        exact J_14 H locs _ hM hS (by first | (rw [if_pos c_7, if_pos c_9, if_pos c_11]) | rfl | (simp only [c_7, c_9, c_11, if_true, if_false, ite_true, ite_false, not_false_eq_true, reduceIte]))
      · refine lv_iconst (v := 1) hx hb dX1_house_44 (by decide) ?_
        refine lv_goto (tgt := 49) hx hb dX1_house_45 (by decide) ?_
        exact J_14 H locs _ hM hS (by first | (rw [if_pos c_7, if_pos c_9, if_neg c_11]) | rfl | (simp only [c_7, c_9, c_11, if_true, if_false, ite_true, ite_false, not_false_eq_true, reduceIte]))

abbrev rm_X1_borehole_ok : Room := { frames := 7, cells := 3, slots := 3104, locals := 191 }
set_option maxHeartbeats 1000000 in
theorem k_X1_borehole_ok (l : Launch) (g : GG) (A : Nat → Prop) (ad : Nat → Nat → Nat) (Mx : MM) (x : St) (hls : lsOK x) (hcp : capOK x) (hho : hoOK x) (hcl : clOK x) (h12 : Mx 12 0 = none) (h13 : Mx 13 0 = none) (h14 : Mx 14 0 = none) (k : Nat) (hk : k < 25) (a1 : Int32) (h1 : inF a1 (-12) 12 = 1) (hw : cboW x = 1) : Met l yX1_borehole (ws_ yX1_borehole cX1_borehole 4 (some .int)) rm_X1_borehole_ok (va_Pc [.ref (ad 0 0), .int (nI k), .int a1] (mPre g A (cwM g ad Mx x))) (va_Qi (fun (r : Int32) (ad2 : Nat → Nat → Nat) => r = nI (nt x 19 0 + 1) - 1 ∧ ad2 0 0 = ad 0 0) (fun ad2 t => mW g.1 A (cwM g ad2 Mx (cboF x k a1)) t.heap) A) 3 3104 A := by
  refine m_start RX1 rfl (by decide) (Nat.le_of_ble_eq_true rfl) ?_
  intro p e s m args below meth c hcf hr hlk hnm hE hA H locs hM hS ls hl
  have hx := hcf.1
  have hb := hcf.2.1
  have hml := hcf.2.2.1
  have hown := hcf.2.2.2.1
  have hts := hcf.2.2.2.2
  have hl : lv_has ls 4 [(0, .ref (ad 0 0)), (1, .int (nI k)), (2, .int a1)] := hl
  obtain ⟨hb13, hb19, hb24, hs0, hs1, hs2⟩ := hls_n x hls
  generalize hQ : MQ below (va_Qi (fun (r : Int32) (ad2 : Nat → Nat → Nat) => r = nI (nt x 19 0 + 1) - 1 ∧ ad2 0 0 = ad 0 0) (fun ad2 t => mW g.1 A (cwM g ad2 Mx (cboF x k a1)) t.heap) A) args s 3 3104 A = Q
  refine lv_aload_n hx hb dX1_borehole_0 rfl (lv_at hl 0 rfl) ?_
  refine lv_iload_n hx hb dX1_borehole_1 rfl (lv_at hl 1 rfl) ?_
  refine m_cpr (m_rV (As := [.int (nI k)]) (rest := []) hcf (k_X1_cellAt_ok l g A ad Mx x k (by omega)) (cwV 1 hts (lw_V q416 q418 qs7 q35 q419) rfl rfl rfl (by decide +kernel) ⟨Nat.le_of_ble_eq_true rfl, Nat.le_of_ble_eq_true rfl⟩) hE hA hM hS 0 0 cw_0 (ci := 0) rfl rfl hl.1 rfl (Nat.le_of_ble_eq_true rfl) dX1_borehole_2 ⟨Nat.le_of_ble_eq_true rfl, Nat.le_of_ble_eq_true rfl⟩) hS (fun H locs hM hS => ?_)
  refine lv_astore_n (lv' := [(3, .ref (ad 2 k)), (0, .ref (ad 0 0)), (1, .int (nI k)), (2, .int a1)]) hx hb dX1_borehole_5 rfl hl (by decide) rfl (fun ls hl => ?_)
  refine lv_iload_n hx hb dX1_borehole_6 rfl (lv_at hl 3 rfl) ?_
  refine lv_bipush (v := (-12)) hx hb dX1_borehole_7 (by decide) ?_
  refine lv_bipush (v := 12) hx hb dX1_borehole_9 (by decide) ?_
  refine m_cpi (m_rS (As := [.int a1, .int (-12), .int 12]) (rest := []) hcf (k_X1_isIn l g A (cwM g ad Mx x) a1 (-12) 12) (va_cwS 3 hts (lw_S q420 q421 q35 q422) rfl rfl rfl (by decide +kernel) ⟨Nat.le_of_ble_eq_true rfl, Nat.le_of_ble_eq_true rfl⟩) hE hA hM hS rfl hl.1 rfl (Nat.le_of_ble_eq_true rfl) dX1_borehole_11 ⟨Nat.le_of_ble_eq_true rfl, Nat.le_of_ble_eq_true rfl⟩) hS (fun H locs hM hS => ?_)
  refine m_topI (y := 1) (h1) ?_
  refine m_cpv (m_rS (As := [.int 1]) (rest := []) hcf (k_X1_inRange_ok l g A (cwM g ad Mx x)) (va_cwS 1 hts (lw_S q439 q440 q35 q441) rfl rfl rfl (by decide +kernel) ⟨Nat.le_of_ble_eq_true rfl, Nat.le_of_ble_eq_true rfl⟩) hE hA hM hS rfl hl.1 rfl (Nat.le_of_ble_eq_true rfl) dX1_borehole_14 ⟨Nat.le_of_ble_eq_true rfl, Nat.le_of_ble_eq_true rfl⟩) hS (fun H locs hM hS => ?_)
  refine lv_aload_n hx hb dX1_borehole_17 rfl (lv_at hl 1 rfl) ?_
  refine m_get hx hb hts in_X1 hown hE hM 0 0 cw_0 (ci := 0) rfl 2 (by decide) (hts _ q181) (fun _ h9 => h9) rfl dX1_borehole_18 ?_
  refine m_cpi (m_rV (As := []) (rest := []) hcf (k_J2_size l g A ad Mx x 1 (by omega)) (cwV 0 hts (lw_V q575 q576 q577 q38 q578) rfl rfl rfl (by decide +kernel) ⟨Nat.le_of_ble_eq_true rfl, Nat.le_of_ble_eq_true rfl⟩) hE hA hM hS 5 1 (cw_5 (by omega)) (ci := 8) rfl rfl hl.1 rfl (Nat.le_of_ble_eq_true rfl) dX1_borehole_21 ⟨Nat.le_of_ble_eq_true rfl, Nat.le_of_ble_eq_true rfl⟩) hS (fun H locs hM hS => ?_)
  refine m_topI (y := nI (nt x 19 0)) (hs1) ?_
  refine lv_bipush (v := 10) hx hb dX1_borehole_24 (by decide) ?_
  have J_11 : ∀ (v_9 : Int32), ((if 10 ≤ (nI (nt x 19 0)) then 0 else 1) = v_9) → W p l e rm_X1_borehole_ok s m args below meth c H locs 0 0 Q (F0 m 34 ls [.int v_9]) := by
    intro v_9 ev_10
    refine m_topI (y := 1) ((by subst ev_10; exact hw)) ?_
    refine m_cpv (m_rS (As := [.int 1]) (rest := []) hcf (k_X1_allowed_ok l g A (cwM g ad Mx x)) (va_cwS 1 hts (lw_S q473 q474 q35 q475) rfl rfl rfl (by decide +kernel) ⟨Nat.le_of_ble_eq_true rfl, Nat.le_of_ble_eq_true rfl⟩) hE hA hM hS rfl hl.1 rfl (Nat.le_of_ble_eq_true rfl) dX1_borehole_34 ⟨Nat.le_of_ble_eq_true rfl, Nat.le_of_ble_eq_true rfl⟩) hS (fun H locs hM hS => ?_)
    refine lv_aload_n hx hb dX1_borehole_37 rfl (lv_at hl 1 rfl) ?_
    refine m_get hx hb hts in_X1 hown hE hM 0 0 cw_0 (ci := 0) rfl 2 (by decide) (hts _ q181) (fun _ h9 => h9) rfl dX1_borehole_38 ?_
    refine m_new hx hb hts in_X7 tyX7 tyX7_ok hown (hts _ q624) (hts _ q746) (hts _ q62) hE hM hS hA 12 0 (by rw [cw_ext (by decide)]; exact h12) (ci := 6) rfl (fs := [.null, .int 0, .int 0, .null]) bo_fs (Nat.le_of_ble_eq_true rfl) (Nat.le_of_ble_eq_true rfl) dX1_borehole_41 (fun q_13 H h_q_13 hM hS => ?_)
    have hM := cwUp (by decide) hM
    refine lv_dup hx hb dX1_borehole_44 rfl ?_
    refine lv_aload_n hx hb dX1_borehole_45 rfl (lv_at hl 0 rfl) ?_
    refine lv_iload_n hx hb dX1_borehole_46 rfl (lv_at hl 3 rfl) ?_
    refine lv_aload_n hx hb dX1_borehole_47 rfl (lv_at hl 1 rfl) ?_
    refine m_get hx hb hts in_X1 hown hE hM 0 0 cw_0 (ci := 0) rfl 7 (by decide) (hts _ q187) (fun _ h9 => h9) rfl dX1_borehole_48 ?_
    refine m_cv (m_rI (As := [.ref (ad 2 k), .int a1, .int (x.1 1 0)]) (rest := [.ref q_13, .ref (ad 5 1)]) hcf (k_X7_init l g A (cwM g ad Mx x) q_13 (ad 2 k) a1 (x.1 1 0) ((cw_ext (by decide)).trans h13)) (cwI 3 hts (lw_meth q749) rfl rfl rfl (hts _ q62) (hts _ q747) (hts _ q748) rfl (by decide +kernel) ⟨Nat.le_of_ble_eq_true rfl, Nat.le_of_ble_eq_true rfl⟩) hE hA (upCw (by decide) hM) hS rfl hl.1 rfl (Nat.le_of_ble_eq_true rfl) dX1_borehole_51 ⟨Nat.le_of_ble_eq_true rfl, Nat.le_of_ble_eq_true rfl⟩) hS (fun ra H locs _ hM hS => ?_)
    have hM : mW g.1 A (cwM g ad (mUp (mUp Mx 13 0 (ra, .inl (g.2.1 0, 3000, .inl (fun _ => 0)))) 12 0 (q_13, .inr (6, [.ref (ad 2 k), .int a1, .int (x.1 1 0), .ref ra]))) x) H := hM.congr cw_up2
    have hM : mW g.1 A (cwM g (adP (adP ad 8 (nt x 19 0) q_13) 9 (nt x 19 0) ra) (mUp (mUp Mx 13 0 (ra, .inl (g.2.1 0, 3000, .inl (fun _ => 0)))) 12 0 (q_13, .inr (6, [.ref (ad 2 k), .int a1, .int (x.1 1 0), .ref ra]))) (borS (bor0 x 3000) k a1 (x.1 1 0))) H := hM.congr (borM q_13 ra k a1 (x.1 1 0))
    obtain ⟨x_15, ex_16⟩ : ∃ z : St, borS (bor0 x 3000) k a1 (x.1 1 0) = z := ⟨_, rfl⟩
    rw [ex_16] at hM
    have eo := (bor_a (x := x) (k := k) (dr := a1) (mo := x.1 1 0)).2.2.2.2
    rw [ex_16] at eo
    have hls2 : lsOK x_15 := ls_of (eo 13 0 (by decide) (by decide) (by decide) (by decide)) (eo 19 0 (by decide) (by decide) (by decide) (by decide)) (eo 24 0 (by decide) (by decide) (by decide) (by decide)) (fun i => eo 54 i (by decide) (by decide) (by decide) (by decide)) hls
    have hcp2 : capOK x_15 := cap_of (fun i => eo 54 i (by decide) (by decide) (by decide) (by decide)) hcp
    have hn2 : nt x_15 19 0 = nt x 19 0 := by unfold nt; rw [eo 19 0 (by decide) (by decide) (by decide) (by decide)]
    have hb2 : nt x_15 19 0 < 50 := by rw [hn2]; exact hb19
    have hqe : q_13 = cElm (adP (adP ad 8 (nt x 19 0) q_13) 9 (nt x 19 0) ra) 1 (cN x_15 1) := by rw [show cN x_15 1 = nt x 19 0 from hn2]; exact (show adP (adP ad 8 (nt x 19 0) q_13) 9 (nt x 19 0) ra 8 (nt x 19 0) = q_13 from by rw [adP_o (by omega), adP_s]).symm
    refine m_add (rest := []) hcf (cwV 1 hts (lw_V q681 q682 q683 q38 q684) rfl rfl rfl (by decide +kernel) ⟨Nat.le_of_ble_eq_true rfl, Nat.le_of_ble_eq_true rfl⟩) (cwV 1 hts (lw_V q681 q682 q683 q38 q684) rfl rfl rfl (by decide +kernel) ⟨Nat.le_of_ble_eq_true rfl, Nat.le_of_ble_eq_true rfl⟩) (cwV 1 hts (lw_V q681 q682 q683 q38 q684) rfl rfl rfl (by decide +kernel) ⟨Nat.le_of_ble_eq_true rfl, Nat.le_of_ble_eq_true rfl⟩) hE hA hM hS hls2 hcp2 1 (by decide) (mUp_self _ _ _ _) rfl (w := 9) rfl (by rw [mUp_ne _ _ (by omega), mUp_ne _ _ (by omega)]; exact h14) hqe hl.1 (Nat.le_of_ble_eq_true rfl) dX1_borehole_54 (Nat.le_of_ble_eq_true rfl) (Nat.le_of_ble_eq_true rfl) (fun eN F9 H locs hF9 hM hS => ?_)
    have hM := bor_end hk hls hcp h12 h13 ex_16 rfl hF9 hM
    obtain ⟨x_18, ex_19⟩ : ∃ z : St, adS1 x_15 = z := ⟨_, rfl⟩
    rw [ex_19] at hM
    have hs9 : cCnt x_18 1 = nI (nt x 19 0 + 1) := by rw [← ex_19, (cCnt1_o _ hb2).1, hn2]
    refine lv_pop hx hb dX1_borehole_57 rfl ?_
    refine lv_aload_n hx hb dX1_borehole_58 rfl (lv_at hl 1 rfl) ?_
    refine m_get hx hb hts in_X1 hown hE hM 0 0 cw_0 (ci := 0) rfl 2 (by decide) (hts _ q181) (fun _ h9 => h9) rfl dX1_borehole_59 ?_
    refine m_cpi (m_rV (As := []) (rest := []) hcf (k_J2_size l g A (adP (adP (adP ad 8 (nt x 19 0) q_13) 9 (nt x 19 0) ra) 6 1 eN) Mx x_18 1 (by omega)) (cwV 0 hts (lw_V q575 q576 q577 q38 q578) rfl rfl rfl (by decide +kernel) ⟨Nat.le_of_ble_eq_true rfl, Nat.le_of_ble_eq_true rfl⟩) hE hA hM hS 5 1 (cw_5 (by omega)) (ci := 8) rfl rfl hl.1 rfl (Nat.le_of_ble_eq_true rfl) dX1_borehole_62 ⟨Nat.le_of_ble_eq_true rfl, Nat.le_of_ble_eq_true rfl⟩) hS (fun H locs hM hS => ?_)
    refine m_topI (y := nI (nt x 19 0 + 1)) (hs9) ?_
    refine lv_iconst (v := 1) hx hb dX1_borehole_65 (by decide) ?_
    refine lv_isub hx hb dX1_borehole_66 ?_
    rw [← hQ]
    exact m_iret (adP (adP (adP ad 8 (nt x 19 0) q_13) 9 (nt x 19 0) ra) 6 1 eN) hx hb hr rfl hlk (by rw [← ex_19, ← ex_16] at hM; exact hM) hS ⟨rfl, rfl⟩ (by first | decide | omega) (by first | decide | omega) dX1_borehole_67
  refine lv_icmp_ge (tgt := 33) hx hb dX1_borehole_26 (by decide) (fun c_8 => ?_) (fun c_8 => ?_)
  · refine lv_iconst (v := 0) hx hb dX1_borehole_33 (by decide) ?_
    exact J_11 _ (by first | (rw [if_pos c_8]) | rfl | (simp only [c_8, if_true, if_false, ite_true, ite_false, not_false_eq_true, reduceIte]))
  · refine lv_iconst (v := 1) hx hb dX1_borehole_29 (by decide) ?_
    refine lv_goto (tgt := 34) hx hb dX1_borehole_30 (by decide) ?_
    exact J_11 _ (by first | (rw [if_neg c_8]) | rfl | (simp only [c_8, if_true, if_false, ite_true, ite_false, not_false_eq_true, reduceIte]))

abbrev rm_X1_borehole_n1 : Room := { frames := 8, cells := 1, slots := 6, locals := 123 }
set_option maxHeartbeats 400000 in
theorem k_X1_borehole_n1 (l : Launch) (g : GG) (A : Nat → Prop) (hlt : l.stackTraces = false) (ad : Nat → Nat → Nat) (Mx : MM) (x : St) (hls : lsOK x) (a0 a1 : Int32) (h0 : inF a0 0 24 = 0) : vx_Met l yX1_borehole (ws_ yX1_borehole cX1_borehole 4 (some .int)) rm_X1_borehole_n1 (va_Pc [.ref (ad 0 0), .int a0, .int a1] (mPre g A (cwM g ad Mx x))) pNo (mX g A "java/lang/IndexOutOfBoundsException" (cwM g ad Mx x)) 1 6 A := by
  refine m_startX RX1 rfl (by decide) (Nat.le_of_ble_eq_true rfl) ?_
  intro p e s m args below meth c hcf hr hlk hnm hE hA ht H locs hM hS ls hl
  have hx := hcf.1
  have hb := hcf.2.1
  have hml := hcf.2.2.1
  have hown := hcf.2.2.2.1
  have hts := hcf.2.2.2.2
  have hl : lv_has ls 4 [(0, .ref (ad 0 0)), (1, .int a0), (2, .int a1)] := hl
  generalize hQ : vx_MQ below pNo (mX g A "java/lang/IndexOutOfBoundsException" (cwM g ad Mx x)) args s 1 6 A = Q
  refine lv_aload_n hx hb dX1_borehole_0 rfl (lv_at hl 0 rfl) ?_
  refine lv_iload_n hx hb dX1_borehole_1 rfl (lv_at hl 1 rfl) ?_
  rw [← hQ]
  exact m_xend (m_xV (As := [.int a0]) (rest := []) hcf (k_X1_cellAt_no l g A hlt ad Mx x a0 h0) (cwV 1 hts (lw_V q416 q418 qs7 q35 q419) rfl rfl rfl (by decide +kernel) ⟨Nat.le_of_ble_eq_true rfl, Nat.le_of_ble_eq_true rfl⟩) hE hA hM hS 0 0 cw_0 (ci := 0) rfl rfl hl.1 rfl (Nat.le_of_ble_eq_true rfl) dX1_borehole_2 ⟨Nat.le_of_ble_eq_true rfl, Nat.le_of_ble_eq_true rfl⟩) ht hlk hS (Nat.le_of_ble_eq_true rfl) (Nat.le_of_ble_eq_true rfl)

abbrev rm_X1_borehole_n2 : Room := { frames := 7, cells := 1, slots := 6, locals := 102 }
set_option maxHeartbeats 400000 in
theorem k_X1_borehole_n2 (l : Launch) (g : GG) (A : Nat → Prop) (hlt : l.stackTraces = false) (ad : Nat → Nat → Nat) (Mx : MM) (x : St) (hls : lsOK x) (k : Nat) (hk : k < 25) (a1 : Int32) (h1 : inF a1 (-12) 12 = 0) : vx_Met l yX1_borehole (ws_ yX1_borehole cX1_borehole 4 (some .int)) rm_X1_borehole_n2 (va_Pc [.ref (ad 0 0), .int (nI k), .int a1] (mPre g A (cwM g ad Mx x))) pNo (mX g A "java/lang/IllegalArgumentException" (cwM g ad Mx x)) 1 6 A := by
  refine m_startX RX1 rfl (by decide) (Nat.le_of_ble_eq_true rfl) ?_
  intro p e s m args below meth c hcf hr hlk hnm hE hA ht H locs hM hS ls hl
  have hx := hcf.1
  have hb := hcf.2.1
  have hml := hcf.2.2.1
  have hown := hcf.2.2.2.1
  have hts := hcf.2.2.2.2
  have hl : lv_has ls 4 [(0, .ref (ad 0 0)), (1, .int (nI k)), (2, .int a1)] := hl
  generalize hQ : vx_MQ below pNo (mX g A "java/lang/IllegalArgumentException" (cwM g ad Mx x)) args s 1 6 A = Q
  refine lv_aload_n hx hb dX1_borehole_0 rfl (lv_at hl 0 rfl) ?_
  refine lv_iload_n hx hb dX1_borehole_1 rfl (lv_at hl 1 rfl) ?_
  refine m_cpr (m_rV (As := [.int (nI k)]) (rest := []) hcf (k_X1_cellAt_ok l g A ad Mx x k (by omega)) (cwV 1 hts (lw_V q416 q418 qs7 q35 q419) rfl rfl rfl (by decide +kernel) ⟨Nat.le_of_ble_eq_true rfl, Nat.le_of_ble_eq_true rfl⟩) hE hA hM hS 0 0 cw_0 (ci := 0) rfl rfl hl.1 rfl (Nat.le_of_ble_eq_true rfl) dX1_borehole_2 ⟨Nat.le_of_ble_eq_true rfl, Nat.le_of_ble_eq_true rfl⟩) hS (fun H locs hM hS => ?_)
  refine lv_astore_n (lv' := [(3, .ref (ad 2 k)), (0, .ref (ad 0 0)), (1, .int (nI k)), (2, .int a1)]) hx hb dX1_borehole_5 rfl hl (by decide) rfl (fun ls hl => ?_)
  refine lv_iload_n hx hb dX1_borehole_6 rfl (lv_at hl 3 rfl) ?_
  refine lv_bipush (v := (-12)) hx hb dX1_borehole_7 (by decide) ?_
  refine lv_bipush (v := 12) hx hb dX1_borehole_9 (by decide) ?_
  refine m_cpi (m_rS (As := [.int a1, .int (-12), .int 12]) (rest := []) hcf (k_X1_isIn l g A (cwM g ad Mx x) a1 (-12) 12) (va_cwS 3 hts (lw_S q420 q421 q35 q422) rfl rfl rfl (by decide +kernel) ⟨Nat.le_of_ble_eq_true rfl, Nat.le_of_ble_eq_true rfl⟩) hE hA hM hS rfl hl.1 rfl (Nat.le_of_ble_eq_true rfl) dX1_borehole_11 ⟨Nat.le_of_ble_eq_true rfl, Nat.le_of_ble_eq_true rfl⟩) hS (fun H locs hM hS => ?_)
  refine m_topI (y := 0) (h1) ?_
  rw [← hQ]
  exact m_xend (m_xS (As := [.int 0]) (rest := []) hcf (k_X1_inRange_no l g A hlt (cwM g ad Mx x)) (va_cwS 1 hts (lw_S q439 q440 q35 q441) rfl rfl rfl (by decide +kernel) ⟨Nat.le_of_ble_eq_true rfl, Nat.le_of_ble_eq_true rfl⟩) hE hA hM hS rfl hl.1 rfl (Nat.le_of_ble_eq_true rfl) dX1_borehole_14 ⟨Nat.le_of_ble_eq_true rfl, Nat.le_of_ble_eq_true rfl⟩) ht hlk hS (Nat.le_of_ble_eq_true rfl) (Nat.le_of_ble_eq_true rfl)

abbrev rm_X1_borehole_n3 : Room := { frames := 7, cells := 1, slots := 6, locals := 102 }
set_option maxHeartbeats 400000 in
theorem k_X1_borehole_n3 (l : Launch) (g : GG) (A : Nat → Prop) (hlt : l.stackTraces = false) (ad : Nat → Nat → Nat) (Mx : MM) (x : St) (hls : lsOK x) (k : Nat) (hk : k < 25) (a1 : Int32) (h1 : inF a1 (-12) 12 = 1) (hw : cboW x = 0) : vx_Met l yX1_borehole (ws_ yX1_borehole cX1_borehole 4 (some .int)) rm_X1_borehole_n3 (va_Pc [.ref (ad 0 0), .int (nI k), .int a1] (mPre g A (cwM g ad Mx x))) pNo (mX g A "java/lang/IllegalStateException" (cwM g ad Mx x)) 1 6 A := by
  refine m_startX RX1 rfl (by decide) (Nat.le_of_ble_eq_true rfl) ?_
  intro p e s m args below meth c hcf hr hlk hnm hE hA ht H locs hM hS ls hl
  have hx := hcf.1
  have hb := hcf.2.1
  have hml := hcf.2.2.1
  have hown := hcf.2.2.2.1
  have hts := hcf.2.2.2.2
  have hl : lv_has ls 4 [(0, .ref (ad 0 0)), (1, .int (nI k)), (2, .int a1)] := hl
  obtain ⟨hb13, hb19, hb24, hs0, hs1, hs2⟩ := hls_n x hls
  generalize hQ : vx_MQ below pNo (mX g A "java/lang/IllegalStateException" (cwM g ad Mx x)) args s 1 6 A = Q
  refine lv_aload_n hx hb dX1_borehole_0 rfl (lv_at hl 0 rfl) ?_
  refine lv_iload_n hx hb dX1_borehole_1 rfl (lv_at hl 1 rfl) ?_
  refine m_cpr (m_rV (As := [.int (nI k)]) (rest := []) hcf (k_X1_cellAt_ok l g A ad Mx x k (by omega)) (cwV 1 hts (lw_V q416 q418 qs7 q35 q419) rfl rfl rfl (by decide +kernel) ⟨Nat.le_of_ble_eq_true rfl, Nat.le_of_ble_eq_true rfl⟩) hE hA hM hS 0 0 cw_0 (ci := 0) rfl rfl hl.1 rfl (Nat.le_of_ble_eq_true rfl) dX1_borehole_2 ⟨Nat.le_of_ble_eq_true rfl, Nat.le_of_ble_eq_true rfl⟩) hS (fun H locs hM hS => ?_)
  refine lv_astore_n (lv' := [(3, .ref (ad 2 k)), (0, .ref (ad 0 0)), (1, .int (nI k)), (2, .int a1)]) hx hb dX1_borehole_5 rfl hl (by decide) rfl (fun ls hl => ?_)
  refine lv_iload_n hx hb dX1_borehole_6 rfl (lv_at hl 3 rfl) ?_
  refine lv_bipush (v := (-12)) hx hb dX1_borehole_7 (by decide) ?_
  refine lv_bipush (v := 12) hx hb dX1_borehole_9 (by decide) ?_
  refine m_cpi (m_rS (As := [.int a1, .int (-12), .int 12]) (rest := []) hcf (k_X1_isIn l g A (cwM g ad Mx x) a1 (-12) 12) (va_cwS 3 hts (lw_S q420 q421 q35 q422) rfl rfl rfl (by decide +kernel) ⟨Nat.le_of_ble_eq_true rfl, Nat.le_of_ble_eq_true rfl⟩) hE hA hM hS rfl hl.1 rfl (Nat.le_of_ble_eq_true rfl) dX1_borehole_11 ⟨Nat.le_of_ble_eq_true rfl, Nat.le_of_ble_eq_true rfl⟩) hS (fun H locs hM hS => ?_)
  refine m_topI (y := 1) (h1) ?_
  refine m_cpv (m_rS (As := [.int 1]) (rest := []) hcf (k_X1_inRange_ok l g A (cwM g ad Mx x)) (va_cwS 1 hts (lw_S q439 q440 q35 q441) rfl rfl rfl (by decide +kernel) ⟨Nat.le_of_ble_eq_true rfl, Nat.le_of_ble_eq_true rfl⟩) hE hA hM hS rfl hl.1 rfl (Nat.le_of_ble_eq_true rfl) dX1_borehole_14 ⟨Nat.le_of_ble_eq_true rfl, Nat.le_of_ble_eq_true rfl⟩) hS (fun H locs hM hS => ?_)
  refine lv_aload_n hx hb dX1_borehole_17 rfl (lv_at hl 1 rfl) ?_
  refine m_get hx hb hts in_X1 hown hE hM 0 0 cw_0 (ci := 0) rfl 2 (by decide) (hts _ q181) (fun _ h9 => h9) rfl dX1_borehole_18 ?_
  refine m_cpi (m_rV (As := []) (rest := []) hcf (k_J2_size l g A ad Mx x 1 (by omega)) (cwV 0 hts (lw_V q575 q576 q577 q38 q578) rfl rfl rfl (by decide +kernel) ⟨Nat.le_of_ble_eq_true rfl, Nat.le_of_ble_eq_true rfl⟩) hE hA hM hS 5 1 (cw_5 (by omega)) (ci := 8) rfl rfl hl.1 rfl (Nat.le_of_ble_eq_true rfl) dX1_borehole_21 ⟨Nat.le_of_ble_eq_true rfl, Nat.le_of_ble_eq_true rfl⟩) hS (fun H locs hM hS => ?_)
  refine m_topI (y := nI (nt x 19 0)) (hs1) ?_
  refine lv_bipush (v := 10) hx hb dX1_borehole_24 (by decide) ?_
  have J_11 : ∀ (v_9 : Int32), ((if 10 ≤ (nI (nt x 19 0)) then 0 else 1) = v_9) → W p l e rm_X1_borehole_n3 s m args below meth c H locs 0 0 Q (F0 m 34 ls [.int v_9]) := by
    intro v_9 ev_10
    refine m_topI (y := 0) ((by subst ev_10; exact hw)) ?_
    rw [← hQ]
    exact m_xend (m_xS (As := [.int 0]) (rest := []) hcf (k_X1_allowed_no l g A hlt (cwM g ad Mx x)) (va_cwS 1 hts (lw_S q473 q474 q35 q475) rfl rfl rfl (by decide +kernel) ⟨Nat.le_of_ble_eq_true rfl, Nat.le_of_ble_eq_true rfl⟩) hE hA hM hS rfl hl.1 rfl (Nat.le_of_ble_eq_true rfl) dX1_borehole_34 ⟨Nat.le_of_ble_eq_true rfl, Nat.le_of_ble_eq_true rfl⟩) ht hlk hS (Nat.le_of_ble_eq_true rfl) (Nat.le_of_ble_eq_true rfl)
  refine lv_icmp_ge (tgt := 33) hx hb dX1_borehole_26 (by decide) (fun c_8 => ?_) (fun c_8 => ?_)
  · refine lv_iconst (v := 0) hx hb dX1_borehole_33 (by decide) ?_
    exact J_11 _ (by first | (rw [if_pos c_8]) | rfl | (simp only [c_8, if_true, if_false, ite_true, ite_false, not_false_eq_true, reduceIte]))
  · refine lv_iconst (v := 1) hx hb dX1_borehole_29 (by decide) ?_
    refine lv_goto (tgt := 34) hx hb dX1_borehole_30 (by decide) ?_
    exact J_11 _ (by first | (rw [if_neg c_8]) | rfl | (simp only [c_8, if_true, if_false, ite_true, ite_false, not_false_eq_true, reduceIte]))

abbrev rm_X1_claim_ok : Room := { frames := 7, cells := 2, slots := 104, locals := 191 }
set_option maxHeartbeats 1000000 in
theorem k_X1_claim_ok (l : Launch) (g : GG) (A : Nat → Prop) (ad : Nat → Nat → Nat) (Mx : MM) (x : St) (hok : okM x) (hls : lsOK x) (hcp : capOK x) (hho : hoOK x) (hcl : clOK x) (h12 : Mx 12 0 = none) (h13 : Mx 13 0 = none) (h14 : Mx 14 0 = none) (h : Nat) (hh : h < nt x 13 0) (hw : ccmW x = 1) : Met l yX1_claim (ws_ yX1_claim cX1_claim 3 (some .int)) rm_X1_claim_ok (va_Pc [.ref (ad 0 0), .int (nI h)] (mPre g A (cwM g ad Mx x))) (va_Qi (fun (r : Int32) (ad2 : Nat → Nat → Nat) => r = nI (nt x 24 0 + 1) - 1 ∧ ad2 0 0 = ad 0 0) (fun ad2 t => mW g.1 A (cwM g ad2 Mx (ccmF x h (nI (nt x 1 0)) (cdueF x h (x.1 17 h) (nt x 1 0)))) t.heap) A) 2 104 A := by
  refine m_start RX1 rfl (by decide) (Nat.le_of_ble_eq_true rfl) ?_
  intro p e s m args below meth c hcf hr hlk hnm hE hA H locs hM hS ls hl
  have hx := hcf.1
  have hb := hcf.2.1
  have hml := hcf.2.2.1
  have hown := hcf.2.2.2.1
  have hts := hcf.2.2.2.2
  have hl : lv_has ls 3 [(0, .ref (ad 0 0)), (1, .int (nI h))] := hl
  obtain ⟨hb13, hb19, hb24, hs0, hs1, hs2⟩ := hls_n x hls
  have hm6 : nt x 1 0 < 601 := hok.h1.2
  generalize hQ : MQ below (va_Qi (fun (r : Int32) (ad2 : Nat → Nat → Nat) => r = nI (nt x 24 0 + 1) - 1 ∧ ad2 0 0 = ad 0 0) (fun ad2 t => mW g.1 A (cwM g ad2 Mx (ccmF x h (nI (nt x 1 0)) (cdueF x h (x.1 17 h) (nt x 1 0)))) t.heap) A) args s 2 104 A = Q
  refine lv_aload_n hx hb dX1_claim_0 rfl (lv_at hl 0 rfl) ?_
  refine lv_iload_n hx hb dX1_claim_1 rfl (lv_at hl 1 rfl) ?_
  refine m_cpr (m_rV (As := [.int (nI h)]) (rest := []) hcf (k_X1_houseAt_ok l g A ad Mx x hls h hh) (cwV 1 hts (lw_V q770 q772 qs13 q35 q773) rfl rfl rfl (by decide +kernel) ⟨Nat.le_of_ble_eq_true rfl, Nat.le_of_ble_eq_true rfl⟩) hE hA hM hS 0 0 cw_0 (ci := 0) rfl rfl hl.1 rfl (Nat.le_of_ble_eq_true rfl) dX1_claim_2 ⟨Nat.le_of_ble_eq_true rfl, Nat.le_of_ble_eq_true rfl⟩) hS (fun H locs hM hS => ?_)
  refine lv_astore_n (lv' := [(2, .ref (ad 7 h)), (0, .ref (ad 0 0)), (1, .int (nI h))]) hx hb dX1_claim_5 rfl hl (by decide) rfl (fun ls hl => ?_)
  refine lv_aload_n hx hb dX1_claim_6 rfl (lv_at hl 1 rfl) ?_
  refine m_get hx hb hts in_X1 hown hE hM 0 0 cw_0 (ci := 0) rfl 3 (by decide) (hts _ q182) (fun _ h9 => h9) rfl dX1_claim_7 ?_
  refine m_cpi (m_rV (As := []) (rest := []) hcf (k_J2_size l g A ad Mx x 2 (by omega)) (cwV 0 hts (lw_V q575 q576 q577 q38 q578) rfl rfl rfl (by decide +kernel) ⟨Nat.le_of_ble_eq_true rfl, Nat.le_of_ble_eq_true rfl⟩) hE hA hM hS 5 2 (cw_5 (by omega)) (ci := 8) rfl rfl hl.1 rfl (Nat.le_of_ble_eq_true rfl) dX1_claim_10 ⟨Nat.le_of_ble_eq_true rfl, Nat.le_of_ble_eq_true rfl⟩) hS (fun H locs hM hS => ?_)
  refine m_topI (y := nI (nt x 24 0)) (hs2) ?_
  refine lv_bipush (v := 40) hx hb dX1_claim_13 (by decide) ?_
  have J_7 : ∀ (v_5 : Int32), ((if 40 ≤ (nI (nt x 24 0)) then 0 else 1) = v_5) → W p l e rm_X1_claim_ok s m args below meth c H locs 0 0 Q (F0 m 23 ls [.int v_5]) := by
    intro v_5 ev_6
    refine m_topI (y := 1) ((by subst ev_6; exact hw)) ?_
    refine m_cpv (m_rS (As := [.int 1]) (rest := []) hcf (k_X1_allowed_ok l g A (cwM g ad Mx x)) (va_cwS 1 hts (lw_S q473 q474 q35 q475) rfl rfl rfl (by decide +kernel) ⟨Nat.le_of_ble_eq_true rfl, Nat.le_of_ble_eq_true rfl⟩) hE hA hM hS rfl hl.1 rfl (Nat.le_of_ble_eq_true rfl) dX1_claim_23 ⟨Nat.le_of_ble_eq_true rfl, Nat.le_of_ble_eq_true rfl⟩) hS (fun H locs hM hS => ?_)
    refine lv_aload_n hx hb dX1_claim_26 rfl (lv_at hl 1 rfl) ?_
    refine m_get hx hb hts in_X1 hown hE hM 0 0 cw_0 (ci := 0) rfl 3 (by decide) (hts _ q182) (fun _ h9 => h9) rfl dX1_claim_27 ?_
    refine m_new hx hb hts in_X8 tyX8 tyX8_ok hown (hts _ q774) (hts _ q775) (hts _ q63) hE hM hS hA 12 0 (by rw [cw_ext (by decide)]; exact h12) (ci := 7) rfl (fs := [.null, .int 0, .int 0, .int 0]) cl_fs (Nat.le_of_ble_eq_true rfl) (Nat.le_of_ble_eq_true rfl) dX1_claim_30 (fun q_9 H h_q_9 hM hS => ?_)
    have hM := cwUp (by decide) hM
    refine lv_dup hx hb dX1_claim_33 rfl ?_
    refine lv_aload_n hx hb dX1_claim_34 rfl (lv_at hl 0 rfl) ?_
    refine lv_aload_n hx hb dX1_claim_35 rfl (lv_at hl 1 rfl) ?_
    refine m_get hx hb hts in_X1 hown hE hM 0 0 cw_0 (ci := 0) rfl 7 (by decide) (hts _ q187) (fun _ h9 => h9) rfl dX1_claim_36 ?_
    refine m_topI (y := nI (nt x 1 0)) (hok.h1.1) ?_
    refine lv_aload_n hx hb dX1_claim_39 rfl (lv_at hl 1 rfl) ?_
    refine lv_aload_n hx hb dX1_claim_40 rfl (lv_at hl 0 rfl) ?_
    refine lv_aload_n hx hb dX1_claim_41 rfl (lv_at hl 0 rfl) ?_
    refine m_get hx hb hts in_X6 hown hE hM 7 h (cw_7 (by omega)) (ci := 5) rfl 4 (by decide) (hts _ q670) (fun _ h9 => h9) rfl dX1_claim_42 ?_
    refine lv_aload_n hx hb dX1_claim_45 rfl (lv_at hl 1 rfl) ?_
    refine m_get hx hb hts in_X1 hown hE hM 0 0 cw_0 (ci := 0) rfl 7 (by decide) (hts _ q187) (fun _ h9 => h9) rfl dX1_claim_46 ?_
    refine m_topI (y := nI (nt x 1 0)) (hok.h1.1) ?_
    refine m_cpi (m_rV (As := [.ref (ad 7 h), .int (x.1 17 h), .int (nI (nt x 1 0))]) (rest := [.int (nI (nt x 1 0)), .ref (ad 7 h), .ref q_9, .ref q_9, .ref (ad 5 2)]) hcf (k_X1_due l g A ad (mUp Mx 12 0 (q_9, .inr (7, [.null, .int 0, .int 0, .int 0]))) x hls hok h (by omega) (x.1 17 h) (nt x 1 0) (by omega)) (cwV 3 hts (lw_V q776 q778 qs14 q35 q779) rfl rfl rfl (by decide +kernel) ⟨Nat.le_of_ble_eq_true rfl, Nat.le_of_ble_eq_true rfl⟩) hE hA hM hS 0 0 cw_0 (ci := 0) rfl rfl hl.1 rfl (Nat.le_of_ble_eq_true rfl) dX1_claim_49 ⟨Nat.le_of_ble_eq_true rfl, Nat.le_of_ble_eq_true rfl⟩) hS (fun H locs hM hS => ?_)
    refine m_cpv (m_rI (As := [.ref (ad 7 h), .int (nI (nt x 1 0)), .int (cdueF x h (x.1 17 h) (nt x 1 0))]) (rest := [.ref q_9, .ref (ad 5 2)]) hcf (k_X8_init l g A ad Mx x q_9 h hh (nI (nt x 1 0)) (cdueF x h (x.1 17 h) (nt x 1 0))) (cwI 3 hts (lw_meth q795) rfl rfl rfl (hts _ q63) (hts _ q793) (hts _ q794) rfl (by decide +kernel) ⟨Nat.le_of_ble_eq_true rfl, Nat.le_of_ble_eq_true rfl⟩) hE hA (upCw (by decide) hM) hS rfl hl.1 rfl (Nat.le_of_ble_eq_true rfl) dX1_claim_52 ⟨Nat.le_of_ble_eq_true rfl, Nat.le_of_ble_eq_true rfl⟩) hS (fun H locs hM hS => ?_)
    have hM := cwUp (by decide) hM
    have hM : mW g.1 A (cwM g (adP ad 10 (nt x 24 0) q_9) (mUp Mx 12 0 (q_9, .inr (7, [.ref (ad 7 h), .int (x.1 17 h), .int (nI (nt x 1 0)), .int (cdueF x h (x.1 17 h) (nt x 1 0))]))) (claS x h (x.1 17 h) (nI (nt x 1 0)) (cdueF x h (x.1 17 h) (nt x 1 0)))) H := hM.congr (claM q_9 h (x.1 17 h) (nI (nt x 1 0)) (cdueF x h (x.1 17 h) (nt x 1 0)))
    obtain ⟨x_12, ex_13⟩ : ∃ z : St, claS x h (x.1 17 h) (nI (nt x 1 0)) (cdueF x h (x.1 17 h) (nt x 1 0)) = z := ⟨_, rfl⟩
    rw [ex_13] at hM
    have eo := (cla_a (x := x) (h0 := h) (tl := x.1 17 h) (mo := nI (nt x 1 0)) (am := cdueF x h (x.1 17 h) (nt x 1 0))).2.2.2.2
    rw [ex_13] at eo
    have hls2 : lsOK x_12 := ls_of (eo 13 0 (by decide) (by decide) (by decide) (by decide)) (eo 19 0 (by decide) (by decide) (by decide) (by decide)) (eo 24 0 (by decide) (by decide) (by decide) (by decide)) (fun i => eo 54 i (by decide) (by decide) (by decide) (by decide)) hls
    have hcp2 : capOK x_12 := cap_of (fun i => eo 54 i (by decide) (by decide) (by decide) (by decide)) hcp
    have hn2 : nt x_12 24 0 = nt x 24 0 := by unfold nt; rw [eo 24 0 (by decide) (by decide) (by decide) (by decide)]
    have hb2 : nt x_12 24 0 < 50 := by rw [hn2]; exact hb24
    have hqe : q_9 = cElm (adP ad 10 (nt x 24 0) q_9) 2 (cN x_12 2) := by rw [show cN x_12 2 = nt x 24 0 from hn2]; exact (adP_s ad 10 (nt x 24 0) q_9).symm
    refine m_add (rest := []) hcf (cwV 1 hts (lw_V q681 q682 q683 q38 q684) rfl rfl rfl (by decide +kernel) ⟨Nat.le_of_ble_eq_true rfl, Nat.le_of_ble_eq_true rfl⟩) (cwV 1 hts (lw_V q681 q682 q683 q38 q684) rfl rfl rfl (by decide +kernel) ⟨Nat.le_of_ble_eq_true rfl, Nat.le_of_ble_eq_true rfl⟩) (cwV 1 hts (lw_V q681 q682 q683 q38 q684) rfl rfl rfl (by decide +kernel) ⟨Nat.le_of_ble_eq_true rfl, Nat.le_of_ble_eq_true rfl⟩) hE hA hM hS hls2 hcp2 2 (by decide) (mUp_self _ _ _ _) rfl (w := 10) rfl (by rw [mUp_ne _ _ (by omega)]; exact h14) hqe hl.1 (Nat.le_of_ble_eq_true rfl) dX1_claim_55 (Nat.le_of_ble_eq_true rfl) (Nat.le_of_ble_eq_true rfl) (fun eN F9 H locs hF9 hM hS => ?_)
    have hM := cla_end (by omega) hls hcp h12 ex_13 rfl hF9 hM
    obtain ⟨x_15, ex_16⟩ : ∃ z : St, adS2 x_12 = z := ⟨_, rfl⟩
    rw [ex_16] at hM
    have hs9 : cCnt x_15 2 = nI (nt x 24 0 + 1) := by rw [← ex_16, (cCnt2_o _ hb2).1, hn2]
    refine lv_pop hx hb dX1_claim_58 rfl ?_
    refine lv_aload_n hx hb dX1_claim_59 rfl (lv_at hl 1 rfl) ?_
    refine m_get hx hb hts in_X1 hown hE hM 0 0 cw_0 (ci := 0) rfl 3 (by decide) (hts _ q182) (fun _ h9 => h9) rfl dX1_claim_60 ?_
    refine m_cpi (m_rV (As := []) (rest := []) hcf (k_J2_size l g A (adP (adP ad 10 (nt x 24 0) q_9) 6 2 eN) Mx x_15 2 (by omega)) (cwV 0 hts (lw_V q575 q576 q577 q38 q578) rfl rfl rfl (by decide +kernel) ⟨Nat.le_of_ble_eq_true rfl, Nat.le_of_ble_eq_true rfl⟩) hE hA hM hS 5 2 (cw_5 (by omega)) (ci := 8) rfl rfl hl.1 rfl (Nat.le_of_ble_eq_true rfl) dX1_claim_63 ⟨Nat.le_of_ble_eq_true rfl, Nat.le_of_ble_eq_true rfl⟩) hS (fun H locs hM hS => ?_)
    refine m_topI (y := nI (nt x 24 0 + 1)) (hs9) ?_
    refine lv_iconst (v := 1) hx hb dX1_claim_66 (by decide) ?_
    refine lv_isub hx hb dX1_claim_67 ?_
    rw [← hQ]
    exact m_iret (adP (adP ad 10 (nt x 24 0) q_9) 6 2 eN) hx hb hr rfl hlk (by rw [← ex_16, ← ex_13] at hM; exact hM) hS ⟨rfl, rfl⟩ (by first | decide | omega) (by first | decide | omega) dX1_claim_68
  refine lv_icmp_ge (tgt := 22) hx hb dX1_claim_15 (by decide) (fun c_4 => ?_) (fun c_4 => ?_)
  · refine lv_iconst (v := 0) hx hb dX1_claim_22 (by decide) ?_
    exact J_7 _ (by first | (rw [if_pos c_4]) | rfl | (simp only [c_4, if_true, if_false, ite_true, ite_false, not_false_eq_true, reduceIte]))
  · refine lv_iconst (v := 1) hx hb dX1_claim_18 (by decide) ?_
    refine lv_goto (tgt := 23) hx hb dX1_claim_19 (by decide) ?_
    exact J_7 _ (by first | (rw [if_neg c_4]) | rfl | (simp only [c_4, if_true, if_false, ite_true, ite_false, not_false_eq_true, reduceIte]))

abbrev rm_X1_claim_n1 : Room := { frames := 8, cells := 1, slots := 6, locals := 123 }
set_option maxHeartbeats 400000 in
theorem k_X1_claim_n1 (l : Launch) (g : GG) (A : Nat → Prop) (hlt : l.stackTraces = false) (ad : Nat → Nat → Nat) (Mx : MM) (x : St) (hls : lsOK x) (a0 : Int32) (h0 : inF a0 0 (nI (nt x 13 0) - 1) = 0) : vx_Met l yX1_claim (ws_ yX1_claim cX1_claim 3 (some .int)) rm_X1_claim_n1 (va_Pc [.ref (ad 0 0), .int a0] (mPre g A (cwM g ad Mx x))) pNo (mX g A "java/lang/IndexOutOfBoundsException" (cwM g ad Mx x)) 1 6 A := by
  refine m_startX RX1 rfl (by decide) (Nat.le_of_ble_eq_true rfl) ?_
  intro p e s m args below meth c hcf hr hlk hnm hE hA ht H locs hM hS ls hl
  have hx := hcf.1
  have hb := hcf.2.1
  have hml := hcf.2.2.1
  have hown := hcf.2.2.2.1
  have hts := hcf.2.2.2.2
  have hl : lv_has ls 3 [(0, .ref (ad 0 0)), (1, .int a0)] := hl
  generalize hQ : vx_MQ below pNo (mX g A "java/lang/IndexOutOfBoundsException" (cwM g ad Mx x)) args s 1 6 A = Q
  refine lv_aload_n hx hb dX1_claim_0 rfl (lv_at hl 0 rfl) ?_
  refine lv_iload_n hx hb dX1_claim_1 rfl (lv_at hl 1 rfl) ?_
  rw [← hQ]
  exact m_xend (m_xV (As := [.int a0]) (rest := []) hcf (k_X1_houseAt_no l g A hlt ad Mx x hls a0 h0) (cwV 1 hts (lw_V q770 q772 qs13 q35 q773) rfl rfl rfl (by decide +kernel) ⟨Nat.le_of_ble_eq_true rfl, Nat.le_of_ble_eq_true rfl⟩) hE hA hM hS 0 0 cw_0 (ci := 0) rfl rfl hl.1 rfl (Nat.le_of_ble_eq_true rfl) dX1_claim_2 ⟨Nat.le_of_ble_eq_true rfl, Nat.le_of_ble_eq_true rfl⟩) ht hlk hS (Nat.le_of_ble_eq_true rfl) (Nat.le_of_ble_eq_true rfl)

abbrev rm_X1_claim_n2 : Room := { frames := 7, cells := 1, slots := 6, locals := 102 }
set_option maxHeartbeats 400000 in
theorem k_X1_claim_n2 (l : Launch) (g : GG) (A : Nat → Prop) (hlt : l.stackTraces = false) (ad : Nat → Nat → Nat) (Mx : MM) (x : St) (hls : lsOK x) (h : Nat) (hh : h < nt x 13 0) (hw : ccmW x = 0) : vx_Met l yX1_claim (ws_ yX1_claim cX1_claim 3 (some .int)) rm_X1_claim_n2 (va_Pc [.ref (ad 0 0), .int (nI h)] (mPre g A (cwM g ad Mx x))) pNo (mX g A "java/lang/IllegalStateException" (cwM g ad Mx x)) 1 6 A := by
  refine m_startX RX1 rfl (by decide) (Nat.le_of_ble_eq_true rfl) ?_
  intro p e s m args below meth c hcf hr hlk hnm hE hA ht H locs hM hS ls hl
  have hx := hcf.1
  have hb := hcf.2.1
  have hml := hcf.2.2.1
  have hown := hcf.2.2.2.1
  have hts := hcf.2.2.2.2
  have hl : lv_has ls 3 [(0, .ref (ad 0 0)), (1, .int (nI h))] := hl
  obtain ⟨hb13, hb19, hb24, hs0, hs1, hs2⟩ := hls_n x hls
  generalize hQ : vx_MQ below pNo (mX g A "java/lang/IllegalStateException" (cwM g ad Mx x)) args s 1 6 A = Q
  refine lv_aload_n hx hb dX1_claim_0 rfl (lv_at hl 0 rfl) ?_
  refine lv_iload_n hx hb dX1_claim_1 rfl (lv_at hl 1 rfl) ?_
  refine m_cpr (m_rV (As := [.int (nI h)]) (rest := []) hcf (k_X1_houseAt_ok l g A ad Mx x hls h hh) (cwV 1 hts (lw_V q770 q772 qs13 q35 q773) rfl rfl rfl (by decide +kernel) ⟨Nat.le_of_ble_eq_true rfl, Nat.le_of_ble_eq_true rfl⟩) hE hA hM hS 0 0 cw_0 (ci := 0) rfl rfl hl.1 rfl (Nat.le_of_ble_eq_true rfl) dX1_claim_2 ⟨Nat.le_of_ble_eq_true rfl, Nat.le_of_ble_eq_true rfl⟩) hS (fun H locs hM hS => ?_)
  refine lv_astore_n (lv' := [(2, .ref (ad 7 h)), (0, .ref (ad 0 0)), (1, .int (nI h))]) hx hb dX1_claim_5 rfl hl (by decide) rfl (fun ls hl => ?_)
  refine lv_aload_n hx hb dX1_claim_6 rfl (lv_at hl 1 rfl) ?_
  refine m_get hx hb hts in_X1 hown hE hM 0 0 cw_0 (ci := 0) rfl 3 (by decide) (hts _ q182) (fun _ h9 => h9) rfl dX1_claim_7 ?_
  refine m_cpi (m_rV (As := []) (rest := []) hcf (k_J2_size l g A ad Mx x 2 (by omega)) (cwV 0 hts (lw_V q575 q576 q577 q38 q578) rfl rfl rfl (by decide +kernel) ⟨Nat.le_of_ble_eq_true rfl, Nat.le_of_ble_eq_true rfl⟩) hE hA hM hS 5 2 (cw_5 (by omega)) (ci := 8) rfl rfl hl.1 rfl (Nat.le_of_ble_eq_true rfl) dX1_claim_10 ⟨Nat.le_of_ble_eq_true rfl, Nat.le_of_ble_eq_true rfl⟩) hS (fun H locs hM hS => ?_)
  refine m_topI (y := nI (nt x 24 0)) (hs2) ?_
  refine lv_bipush (v := 40) hx hb dX1_claim_13 (by decide) ?_
  have J_7 : ∀ (v_5 : Int32), ((if 40 ≤ (nI (nt x 24 0)) then 0 else 1) = v_5) → W p l e rm_X1_claim_n2 s m args below meth c H locs 0 0 Q (F0 m 23 ls [.int v_5]) := by
    intro v_5 ev_6
    refine m_topI (y := 0) ((by subst ev_6; exact hw)) ?_
    rw [← hQ]
    exact m_xend (m_xS (As := [.int 0]) (rest := []) hcf (k_X1_allowed_no l g A hlt (cwM g ad Mx x)) (va_cwS 1 hts (lw_S q473 q474 q35 q475) rfl rfl rfl (by decide +kernel) ⟨Nat.le_of_ble_eq_true rfl, Nat.le_of_ble_eq_true rfl⟩) hE hA hM hS rfl hl.1 rfl (Nat.le_of_ble_eq_true rfl) dX1_claim_23 ⟨Nat.le_of_ble_eq_true rfl, Nat.le_of_ble_eq_true rfl⟩) ht hlk hS (Nat.le_of_ble_eq_true rfl) (Nat.le_of_ble_eq_true rfl)
  refine lv_icmp_ge (tgt := 22) hx hb dX1_claim_15 (by decide) (fun c_4 => ?_) (fun c_4 => ?_)
  · refine lv_iconst (v := 0) hx hb dX1_claim_22 (by decide) ?_
    exact J_7 _ (by first | (rw [if_pos c_4]) | rfl | (simp only [c_4, if_true, if_false, ite_true, ite_false, not_false_eq_true, reduceIte]))
  · refine lv_iconst (v := 1) hx hb dX1_claim_18 (by decide) ?_
    refine lv_goto (tgt := 23) hx hb dX1_claim_19 (by decide) ?_
    exact J_7 _ (by first | (rw [if_neg c_4]) | rfl | (simp only [c_4, if_true, if_false, ite_true, ite_false, not_false_eq_true, reduceIte]))
