/-! the land's own methods: what is asked of houses, boreholes, claims, cells -/
set_option maxRecDepth 100000
theorem inF_cnt0 {b n : Nat} (h : b < n) (hn : n < 50) : inF (nI b) 0 (nI n - 1) = 1 := inF_cnt h (by omega)
theorem hls_n (x : St) (hls : lsOK x) : nt x 13 0 < 50 ∧ nt x 19 0 < 50 ∧ nt x 24 0 < 50 ∧ cCnt x 0 = nI (nt x 13 0) ∧ cCnt x 1 = nI (nt x 19 0) ∧ cCnt x 2 = nI (nt x 24 0) := by
  obtain ⟨a1, a2, a3⟩ := hls 0 (by decide)
  obtain ⟨b1, b2, b3⟩ := hls 1 (by decide)
  obtain ⟨c1, c2, c3⟩ := hls 2 (by decide)
  have e0 : cN x 0 = nt x 13 0 := rfl
  have e1 : cN x 1 = nt x 19 0 := rfl
  have e2 : cN x 2 = nt x 24 0 := rfl
  rw [e0] at a1 a2
  rw [e1] at b1 b2
  rw [e2] at c1 c2
  exact ⟨by omega, by omega, by omega, a1, b1, c1⟩
/-- what is due -/
def cduB (x : St) (h t m b : Nat) : Int32 := if cisW x b h = 0 then 0 else (if chasF x b (nI m) (nI t) = 0 then 0 else (if x.1 23 (3000 * b + (5 * m + nt x 15 h)) < 0 then 0 else 1))
def cduZ (x : St) (h t m : Nat) : Nat → Int32 := it (fun z b => z ||| cduB x h t m b) 0
def cduM (x : St) (h t : Nat) : Nat → Int32 := it (fun w i => w + if cduZ x h t (nt x 18 h + i) (nt x 19 0) = 0 then 0 else 1) 0
theorem cduZ_s (x : St) (h t m i : Nat) : cduZ x h t m (i + 1) = cduZ x h t m i ||| cduB x h t m i := it_succ _ _ _
theorem cduM_s (x : St) (h t i : Nat) : cduM x h t (i + 1) = cduM x h t i + if cduZ x h t (nt x 18 h + i) (nt x 19 0) = 0 then 0 else 1 := it_succ _ _ _
def cdueF (x : St) (h : Nat) (tl : Int32) (t : Nat) : Int32 := 100 * jmin tl (cduM x h t (t - nt x 18 h))
def cclS (x : St) (k w : Nat) : St := if w = 6 then (if x.1 3 k = 0 then fgtF x 25 else (spF (fgtF x 25) k).1) else x
def cclF (x : St) (k w : Nat) : Int32 := if w = 0 then x.1 2 k else if w = 1 then x.1 3 k else if w = 2 then x.1 4 k else if w = 3 then x.1 5 k else if w = 4 then x.1 6 k else if w = 5 then (if x.1 52 k = (-1) then (-1) else nI (nt x 52 k)) else if w = 6 then (if x.1 3 k = 0 then 0 else nI (spF (fgtF x 25) k).2) else ctaF x k
def chfF (x : St) (h w : Nat) : Int32 := if w = 0 then nI (nt x 14 h) else if w = 1 then x.1 15 h else if w = 2 then x.1 17 h else if w = 3 then x.1 18 h else cdueF x h (x.1 17 h) (nt x 1 0)
theorem inF_sev {k : Nat} (h : k < 8) : inF (nI k) 0 7 = 1 := by
  have key : ∀ k, k < 8 → inF (nI k) 0 7 = 1 := by decide +kernel
  exact key k h
theorem inF_fou {k : Nat} (h : k < 5) : inF (nI k) 0 4 = 1 := inF_lay h
abbrev rm_X1_houseAt_ok : Room := { frames := 3, cells := 0, slots := 0, locals := 64 }
set_option maxHeartbeats 400000 in
theorem k_X1_houseAt_ok (l : Launch) (g : GG) (A : Nat → Prop) (ad : Nat → Nat → Nat) (Mx : MM) (x : St) (hls : lsOK x) (h : Nat) (hh : h < nt x 13 0) : Met l yX1_houseAt (ws_ yX1_houseAt cX1_houseAt 2 (some (.object "Wakeground$House"))) rm_X1_houseAt_ok (va_Pc [.ref (ad 0 0), .int (nI h)] (mPre g A (cwM g ad Mx x))) (pQr g A (ad 7 h) (cwM g ad Mx x)) 0 0 A := by
  refine m_start RX1 rfl (by decide) (Nat.le_of_ble_eq_true rfl) ?_
  intro p e s m args below meth c hcf hr hlk hnm hE hA H locs hM hS ls hl
  have hx := hcf.1
  have hb := hcf.2.1
  have hml := hcf.2.2.1
  have hown := hcf.2.2.2.1
  have hts := hcf.2.2.2.2
  have hl : lv_has ls 2 [(0, .ref (ad 0 0)), (1, .int (nI h))] := hl
  obtain ⟨hb13, hb19, hb24, hs0, hs1, hs2⟩ := hls_n x hls
  generalize hQ : MQ below (pQr g A (ad 7 h) (cwM g ad Mx x)) args s 0 0 A = Q
  refine lv_iload_n hx hb dX1_houseAt_0 rfl (lv_at hl 1 rfl) ?_
  refine lv_iconst (v := 0) hx hb dX1_houseAt_1 (by decide) ?_
  refine lv_aload_n hx hb dX1_houseAt_2 rfl (lv_at hl 0 rfl) ?_
  refine m_get hx hb hts in_X1 hown hE hM 0 0 cw_0 (ci := 0) rfl 1 (by decide) (hts _ q180) (fun _ h9 => h9) rfl dX1_houseAt_3 ?_
  refine m_cpi (m_rV (As := []) (rest := [.int 0, .int (nI h)]) hcf (k_J2_size l g A ad Mx x 0 (by omega)) (cwV 0 hts (lw_V q575 q576 q577 q38 q578) rfl rfl rfl (by decide +kernel) ⟨Nat.le_of_ble_eq_true rfl, Nat.le_of_ble_eq_true rfl⟩) hE hA hM hS 5 0 (cw_5 (by omega)) (ci := 8) rfl rfl hl.1 rfl (Nat.le_of_ble_eq_true rfl) dX1_houseAt_6 ⟨Nat.le_of_ble_eq_true rfl, Nat.le_of_ble_eq_true rfl⟩) hS (fun H locs hM hS => ?_)
  refine m_topI (y := nI (nt x 13 0)) (hs0) ?_
  refine lv_iconst (v := 1) hx hb dX1_houseAt_9 (by decide) ?_
  refine lv_isub hx hb dX1_houseAt_10 ?_
  refine m_cpi (m_rS (As := [.int (nI h), .int 0, .int ((nI (nt x 13 0)) - 1)]) (rest := []) hcf (k_X1_isIn l g A (cwM g ad Mx x) (nI h) 0 ((nI (nt x 13 0)) - 1)) (va_cwS 3 hts (lw_S q420 q421 q35 q422) rfl rfl rfl (by decide +kernel) ⟨Nat.le_of_ble_eq_true rfl, Nat.le_of_ble_eq_true rfl⟩) hE hA hM hS rfl hl.1 rfl (Nat.le_of_ble_eq_true rfl) dX1_houseAt_11 ⟨Nat.le_of_ble_eq_true rfl, Nat.le_of_ble_eq_true rfl⟩) hS (fun H locs hM hS => ?_)
  refine m_topI (y := 1) (inF_cnt0 hh hb13) ?_
  refine m_cpv (m_rS (As := [.int 1]) (rest := []) hcf (k_X1_known_ok l g A (cwM g ad Mx x)) (va_cwS 1 hts (lw_S q423 q424 q35 q425) rfl rfl rfl (by decide +kernel) ⟨Nat.le_of_ble_eq_true rfl, Nat.le_of_ble_eq_true rfl⟩) hE hA hM hS rfl hl.1 rfl (Nat.le_of_ble_eq_true rfl) dX1_houseAt_14 ⟨Nat.le_of_ble_eq_true rfl, Nat.le_of_ble_eq_true rfl⟩) hS (fun H locs hM hS => ?_)
  refine lv_aload_n hx hb dX1_houseAt_17 rfl (lv_at hl 0 rfl) ?_
  refine m_get hx hb hts in_X1 hown hE hM 0 0 cw_0 (ci := 0) rfl 1 (by decide) (hts _ q180) (fun _ h9 => h9) rfl dX1_houseAt_18 ?_
  refine lv_iload_n hx hb dX1_houseAt_21 rfl (lv_at hl 1 rfl) ?_
  refine m_cpr (m_rV (As := [.int (nI h)]) (rest := []) hcf (k_J2_get l g A ad Mx x hls 0 (by omega) h (by show _ < nt x 13 0; omega)) (cwV 1 hts (lw_V q579 q580 q581 q38 q582) rfl rfl rfl (by decide +kernel) ⟨Nat.le_of_ble_eq_true rfl, Nat.le_of_ble_eq_true rfl⟩) hE hA hM hS 5 0 (cw_5 (by omega)) (ci := 8) rfl rfl hl.1 rfl (Nat.le_of_ble_eq_true rfl) dX1_houseAt_22 ⟨Nat.le_of_ble_eq_true rfl, Nat.le_of_ble_eq_true rfl⟩) hS (fun H locs hM hS => ?_)
  refine va_castS hx hb hown (hts _ q593) (hE.1.1 5 _ rfl).2 (m_recv hE hM ((cw_7 (by omega)) : cwM g ad Mx x 7 h = _) rfl) dX1_houseAt_25 ?_
  rw [← hQ]
  exact m_aret () hx hb hr (by first | exact Or.inl ⟨_, rfl⟩ | exact Or.inr ⟨_, rfl⟩) hlk hM hS trivial rfl (by first | decide | omega) (by first | decide | omega) dX1_houseAt_28

abbrev rm_X1_houseAt_no : Room := { frames := 7, cells := 1, slots := 6, locals := 102 }
set_option maxHeartbeats 400000 in
theorem k_X1_houseAt_no (l : Launch) (g : GG) (A : Nat → Prop) (hlt : l.stackTraces = false) (ad : Nat → Nat → Nat) (Mx : MM) (x : St) (hls : lsOK x) (a0 : Int32) (h0 : inF a0 0 (nI (nt x 13 0) - 1) = 0) : vx_Met l yX1_houseAt (ws_ yX1_houseAt cX1_houseAt 2 (some (.object "Wakeground$House"))) rm_X1_houseAt_no (va_Pc [.ref (ad 0 0), .int a0] (mPre g A (cwM g ad Mx x))) pNo (mX g A "java/lang/IndexOutOfBoundsException" (cwM g ad Mx x)) 1 6 A := by
  refine m_startX RX1 rfl (by decide) (Nat.le_of_ble_eq_true rfl) ?_
  intro p e s m args below meth c hcf hr hlk hnm hE hA ht H locs hM hS ls hl
  have hx := hcf.1
  have hb := hcf.2.1
  have hml := hcf.2.2.1
  have hown := hcf.2.2.2.1
  have hts := hcf.2.2.2.2
  have hl : lv_has ls 2 [(0, .ref (ad 0 0)), (1, .int a0)] := hl
  obtain ⟨hb13, hb19, hb24, hs0, hs1, hs2⟩ := hls_n x hls
  generalize hQ : vx_MQ below pNo (mX g A "java/lang/IndexOutOfBoundsException" (cwM g ad Mx x)) args s 1 6 A = Q
  refine lv_iload_n hx hb dX1_houseAt_0 rfl (lv_at hl 1 rfl) ?_
  refine lv_iconst (v := 0) hx hb dX1_houseAt_1 (by decide) ?_
  refine lv_aload_n hx hb dX1_houseAt_2 rfl (lv_at hl 0 rfl) ?_
  refine m_get hx hb hts in_X1 hown hE hM 0 0 cw_0 (ci := 0) rfl 1 (by decide) (hts _ q180) (fun _ h9 => h9) rfl dX1_houseAt_3 ?_
  refine m_cpi (m_rV (As := []) (rest := [.int 0, .int a0]) hcf (k_J2_size l g A ad Mx x 0 (by omega)) (cwV 0 hts (lw_V q575 q576 q577 q38 q578) rfl rfl rfl (by decide +kernel) ⟨Nat.le_of_ble_eq_true rfl, Nat.le_of_ble_eq_true rfl⟩) hE hA hM hS 5 0 (cw_5 (by omega)) (ci := 8) rfl rfl hl.1 rfl (Nat.le_of_ble_eq_true rfl) dX1_houseAt_6 ⟨Nat.le_of_ble_eq_true rfl, Nat.le_of_ble_eq_true rfl⟩) hS (fun H locs hM hS => ?_)
  refine m_topI (y := nI (nt x 13 0)) (hs0) ?_
  refine lv_iconst (v := 1) hx hb dX1_houseAt_9 (by decide) ?_
  refine lv_isub hx hb dX1_houseAt_10 ?_
  refine m_cpi (m_rS (As := [.int a0, .int 0, .int ((nI (nt x 13 0)) - 1)]) (rest := []) hcf (k_X1_isIn l g A (cwM g ad Mx x) a0 0 ((nI (nt x 13 0)) - 1)) (va_cwS 3 hts (lw_S q420 q421 q35 q422) rfl rfl rfl (by decide +kernel) ⟨Nat.le_of_ble_eq_true rfl, Nat.le_of_ble_eq_true rfl⟩) hE hA hM hS rfl hl.1 rfl (Nat.le_of_ble_eq_true rfl) dX1_houseAt_11 ⟨Nat.le_of_ble_eq_true rfl, Nat.le_of_ble_eq_true rfl⟩) hS (fun H locs hM hS => ?_)
  refine m_topI (y := 0) (h0) ?_
  rw [← hQ]
  exact m_xend (m_xS (As := [.int 0]) (rest := []) hcf (k_X1_known_no l g A hlt (cwM g ad Mx x)) (va_cwS 1 hts (lw_S q423 q424 q35 q425) rfl rfl rfl (by decide +kernel) ⟨Nat.le_of_ble_eq_true rfl, Nat.le_of_ble_eq_true rfl⟩) hE hA hM hS rfl hl.1 rfl (Nat.le_of_ble_eq_true rfl) dX1_houseAt_14 ⟨Nat.le_of_ble_eq_true rfl, Nat.le_of_ble_eq_true rfl⟩) ht hlk hS (Nat.le_of_ble_eq_true rfl) (Nat.le_of_ble_eq_true rfl)

abbrev rm_X1_claimAt_ok : Room := { frames := 3, cells := 0, slots := 0, locals := 64 }
set_option maxHeartbeats 400000 in
theorem k_X1_claimAt_ok (l : Launch) (g : GG) (A : Nat → Prop) (ad : Nat → Nat → Nat) (Mx : MM) (x : St) (hls : lsOK x) (n : Nat) (hn : n < nt x 24 0) : Met l yX1_claimAt (ws_ yX1_claimAt cX1_claimAt 2 (some (.object "Wakeground$Claim"))) rm_X1_claimAt_ok (va_Pc [.ref (ad 0 0), .int (nI n)] (mPre g A (cwM g ad Mx x))) (pQr g A (ad 10 n) (cwM g ad Mx x)) 0 0 A := by
  refine m_start RX1 rfl (by decide) (Nat.le_of_ble_eq_true rfl) ?_
  intro p e s m args below meth c hcf hr hlk hnm hE hA H locs hM hS ls hl
  have hx := hcf.1
  have hb := hcf.2.1
  have hml := hcf.2.2.1
  have hown := hcf.2.2.2.1
  have hts := hcf.2.2.2.2
  have hl : lv_has ls 2 [(0, .ref (ad 0 0)), (1, .int (nI n))] := hl
  obtain ⟨hb13, hb19, hb24, hs0, hs1, hs2⟩ := hls_n x hls
  generalize hQ : MQ below (pQr g A (ad 10 n) (cwM g ad Mx x)) args s 0 0 A = Q
  refine lv_iload_n hx hb dX1_claimAt_0 rfl (lv_at hl 1 rfl) ?_
  refine lv_iconst (v := 0) hx hb dX1_claimAt_1 (by decide) ?_
  refine lv_aload_n hx hb dX1_claimAt_2 rfl (lv_at hl 0 rfl) ?_
  refine m_get hx hb hts in_X1 hown hE hM 0 0 cw_0 (ci := 0) rfl 3 (by decide) (hts _ q182) (fun _ h9 => h9) rfl dX1_claimAt_3 ?_
  refine m_cpi (m_rV (As := []) (rest := [.int 0, .int (nI n)]) hcf (k_J2_size l g A ad Mx x 2 (by omega)) (cwV 0 hts (lw_V q575 q576 q577 q38 q578) rfl rfl rfl (by decide +kernel) ⟨Nat.le_of_ble_eq_true rfl, Nat.le_of_ble_eq_true rfl⟩) hE hA hM hS 5 2 (cw_5 (by omega)) (ci := 8) rfl rfl hl.1 rfl (Nat.le_of_ble_eq_true rfl) dX1_claimAt_6 ⟨Nat.le_of_ble_eq_true rfl, Nat.le_of_ble_eq_true rfl⟩) hS (fun H locs hM hS => ?_)
  refine m_topI (y := nI (nt x 24 0)) (hs2) ?_
  refine lv_iconst (v := 1) hx hb dX1_claimAt_9 (by decide) ?_
  refine lv_isub hx hb dX1_claimAt_10 ?_
  refine m_cpi (m_rS (As := [.int (nI n), .int 0, .int ((nI (nt x 24 0)) - 1)]) (rest := []) hcf (k_X1_isIn l g A (cwM g ad Mx x) (nI n) 0 ((nI (nt x 24 0)) - 1)) (va_cwS 3 hts (lw_S q420 q421 q35 q422) rfl rfl rfl (by decide +kernel) ⟨Nat.le_of_ble_eq_true rfl, Nat.le_of_ble_eq_true rfl⟩) hE hA hM hS rfl hl.1 rfl (Nat.le_of_ble_eq_true rfl) dX1_claimAt_11 ⟨Nat.le_of_ble_eq_true rfl, Nat.le_of_ble_eq_true rfl⟩) hS (fun H locs hM hS => ?_)
  refine m_topI (y := 1) (inF_cnt0 hn hb24) ?_
  refine m_cpv (m_rS (As := [.int 1]) (rest := []) hcf (k_X1_known_ok l g A (cwM g ad Mx x)) (va_cwS 1 hts (lw_S q423 q424 q35 q425) rfl rfl rfl (by decide +kernel) ⟨Nat.le_of_ble_eq_true rfl, Nat.le_of_ble_eq_true rfl⟩) hE hA hM hS rfl hl.1 rfl (Nat.le_of_ble_eq_true rfl) dX1_claimAt_14 ⟨Nat.le_of_ble_eq_true rfl, Nat.le_of_ble_eq_true rfl⟩) hS (fun H locs hM hS => ?_)
  refine lv_aload_n hx hb dX1_claimAt_17 rfl (lv_at hl 0 rfl) ?_
  refine m_get hx hb hts in_X1 hown hE hM 0 0 cw_0 (ci := 0) rfl 3 (by decide) (hts _ q182) (fun _ h9 => h9) rfl dX1_claimAt_18 ?_
  refine lv_iload_n hx hb dX1_claimAt_21 rfl (lv_at hl 1 rfl) ?_
  refine m_cpr (m_rV (As := [.int (nI n)]) (rest := []) hcf (k_J2_get l g A ad Mx x hls 2 (by omega) n (by show _ < nt x 24 0; omega)) (cwV 1 hts (lw_V q579 q580 q581 q38 q582) rfl rfl rfl (by decide +kernel) ⟨Nat.le_of_ble_eq_true rfl, Nat.le_of_ble_eq_true rfl⟩) hE hA hM hS 5 2 (cw_5 (by omega)) (ci := 8) rfl rfl hl.1 rfl (Nat.le_of_ble_eq_true rfl) dX1_claimAt_22 ⟨Nat.le_of_ble_eq_true rfl, Nat.le_of_ble_eq_true rfl⟩) hS (fun H locs hM hS => ?_)
  refine va_castS hx hb hown (hts _ q774) (hE.1.1 7 _ rfl).2 (m_recv hE hM ((cw_10 (by omega)) : cwM g ad Mx x 10 n = _) rfl) dX1_claimAt_25 ?_
  rw [← hQ]
  exact m_aret () hx hb hr (by first | exact Or.inl ⟨_, rfl⟩ | exact Or.inr ⟨_, rfl⟩) hlk hM hS trivial rfl (by first | decide | omega) (by first | decide | omega) dX1_claimAt_28

abbrev rm_X1_claimAt_no : Room := { frames := 7, cells := 1, slots := 6, locals := 102 }
set_option maxHeartbeats 400000 in
theorem k_X1_claimAt_no (l : Launch) (g : GG) (A : Nat → Prop) (hlt : l.stackTraces = false) (ad : Nat → Nat → Nat) (Mx : MM) (x : St) (hls : lsOK x) (a0 : Int32) (h0 : inF a0 0 (nI (nt x 24 0) - 1) = 0) : vx_Met l yX1_claimAt (ws_ yX1_claimAt cX1_claimAt 2 (some (.object "Wakeground$Claim"))) rm_X1_claimAt_no (va_Pc [.ref (ad 0 0), .int a0] (mPre g A (cwM g ad Mx x))) pNo (mX g A "java/lang/IndexOutOfBoundsException" (cwM g ad Mx x)) 1 6 A := by
  refine m_startX RX1 rfl (by decide) (Nat.le_of_ble_eq_true rfl) ?_
  intro p e s m args below meth c hcf hr hlk hnm hE hA ht H locs hM hS ls hl
  have hx := hcf.1
  have hb := hcf.2.1
  have hml := hcf.2.2.1
  have hown := hcf.2.2.2.1
  have hts := hcf.2.2.2.2
  have hl : lv_has ls 2 [(0, .ref (ad 0 0)), (1, .int a0)] := hl
  obtain ⟨hb13, hb19, hb24, hs0, hs1, hs2⟩ := hls_n x hls
  generalize hQ : vx_MQ below pNo (mX g A "java/lang/IndexOutOfBoundsException" (cwM g ad Mx x)) args s 1 6 A = Q
  refine lv_iload_n hx hb dX1_claimAt_0 rfl (lv_at hl 1 rfl) ?_
  refine lv_iconst (v := 0) hx hb dX1_claimAt_1 (by decide) ?_
  refine lv_aload_n hx hb dX1_claimAt_2 rfl (lv_at hl 0 rfl) ?_
  refine m_get hx hb hts in_X1 hown hE hM 0 0 cw_0 (ci := 0) rfl 3 (by decide) (hts _ q182) (fun _ h9 => h9) rfl dX1_claimAt_3 ?_
  refine m_cpi (m_rV (As := []) (rest := [.int 0, .int a0]) hcf (k_J2_size l g A ad Mx x 2 (by omega)) (cwV 0 hts (lw_V q575 q576 q577 q38 q578) rfl rfl rfl (by decide +kernel) ⟨Nat.le_of_ble_eq_true rfl, Nat.le_of_ble_eq_true rfl⟩) hE hA hM hS 5 2 (cw_5 (by omega)) (ci := 8) rfl rfl hl.1 rfl (Nat.le_of_ble_eq_true rfl) dX1_claimAt_6 ⟨Nat.le_of_ble_eq_true rfl, Nat.le_of_ble_eq_true rfl⟩) hS (fun H locs hM hS => ?_)
  refine m_topI (y := nI (nt x 24 0)) (hs2) ?_
  refine lv_iconst (v := 1) hx hb dX1_claimAt_9 (by decide) ?_
  refine lv_isub hx hb dX1_claimAt_10 ?_
  refine m_cpi (m_rS (As := [.int a0, .int 0, .int ((nI (nt x 24 0)) - 1)]) (rest := []) hcf (k_X1_isIn l g A (cwM g ad Mx x) a0 0 ((nI (nt x 24 0)) - 1)) (va_cwS 3 hts (lw_S q420 q421 q35 q422) rfl rfl rfl (by decide +kernel) ⟨Nat.le_of_ble_eq_true rfl, Nat.le_of_ble_eq_true rfl⟩) hE hA hM hS rfl hl.1 rfl (Nat.le_of_ble_eq_true rfl) dX1_claimAt_11 ⟨Nat.le_of_ble_eq_true rfl, Nat.le_of_ble_eq_true rfl⟩) hS (fun H locs hM hS => ?_)
  refine m_topI (y := 0) (h0) ?_
  rw [← hQ]
  exact m_xend (m_xS (As := [.int 0]) (rest := []) hcf (k_X1_known_no l g A hlt (cwM g ad Mx x)) (va_cwS 1 hts (lw_S q423 q424 q35 q425) rfl rfl rfl (by decide +kernel) ⟨Nat.le_of_ble_eq_true rfl, Nat.le_of_ble_eq_true rfl⟩) hE hA hM hS rfl hl.1 rfl (Nat.le_of_ble_eq_true rfl) dX1_claimAt_14 ⟨Nat.le_of_ble_eq_true rfl, Nat.le_of_ble_eq_true rfl⟩) ht hlk hS (Nat.le_of_ble_eq_true rfl) (Nat.le_of_ble_eq_true rfl)

abbrev rm_X1_due : Room := { frames := 3, cells := 0, slots := 0, locals := 64 }
set_option maxHeartbeats 1000000 in
theorem k_X1_due (l : Launch) (g : GG) (A : Nat → Prop) (ad : Nat → Nat → Nat) (Mx : MM) (x : St) (hls : lsOK x) (hok : okM x) (h : Nat) (hh : h < nt x 13 0) (tl : Int32) (t : Nat) (ht : t ≤ 600) : Met l yX1_due (ws_ yX1_due cX1_due 9 (some .int)) rm_X1_due (va_Pc [.ref (ad 0 0), .ref (ad 7 h), .int tl, .int (nI t)] (mPre g A (cwM g ad Mx x))) (pQi g A (cdueF x h tl t) (cwM g ad Mx x)) 0 0 A := by
  refine m_start RX1 rfl (by decide) (Nat.le_of_ble_eq_true rfl) ?_
  intro p e s m args below meth c hcf hr hlk hnm hE hA H locs hM hS ls hl
  have hx := hcf.1
  have hb := hcf.2.1
  have hml := hcf.2.2.1
  have hown := hcf.2.2.2.1
  have hts := hcf.2.2.2.2
  have hl : lv_has ls 9 [(0, .ref (ad 0 0)), (1, .ref (ad 7 h)), (2, .int tl), (3, .int (nI t))] := hl
  obtain ⟨hb13, hb19, hb24, hs0, hs1, hs2⟩ := hls_n x hls
  have hbo13 : nt x 13 0 < 11 := hok.h13.2
  have hbo19 : nt x 19 0 < 11 := hok.h19.2
  have hc14 : nt x 14 h < 25 := (hok.h14 (by omega)).2
  have h15a : x.1 15 h = nI (nt x 15 h) := (hok.h15 (by omega)).1
  have h15b : nt x 15 h < 5 := (hok.h15 (by omega)).2
  have h18a : x.1 18 h = nI (nt x 18 h) := (hok.h18 (by omega)).1
  have h18b : nt x 18 h < 601 := (hok.h18 (by omega)).2
  generalize hQ : MQ below (pQi g A (cdueF x h tl t) (cwM g ad Mx x)) args s 0 0 A = Q
  refine lv_iconst (v := 0) hx hb dX1_due_0 (by decide) ?_
  refine lv_istore (lv' := [(4, .int 0), (0, .ref (ad 0 0)), (1, .ref (ad 7 h)), (2, .int tl), (3, .int (nI t))]) hx hb dX1_due_1 hl (by decide) rfl (fun ls hl => ?_)
  refine lv_aload_n hx hb dX1_due_3 rfl (lv_at hl 2 rfl) ?_
  refine m_get hx hb hts in_X6 hown hE hM 7 h (cw_7 (by omega)) (ci := 5) rfl 3 (by decide) (hts _ q667) (fun _ h9 => h9) rfl dX1_due_4 ?_
  refine m_topI (y := nI (nt x 18 h)) (h18a) ?_
  refine lv_istore (lv' := [(5, .int (nI (nt x 18 h))), (4, .int 0), (0, .ref (ad 0 0)), (1, .ref (ad 7 h)), (2, .int tl), (3, .int (nI t))]) hx hb dX1_due_7 hl (by decide) rfl (fun ls hl => ?_)
  have L_3 : ∀ (n9 i_3 : Nat), i_3 + n9 = t - nt x 18 h → ∀ (H : Heap) (locs : List Loc) (ls : Array Slot), mW g.1 A (cwM g ad Mx x) H → va_S A s.heap H locs → lv_has ls 9 [(0, .ref (ad 0 0)), (1, .ref (ad 7 h)), (2, .int tl), (3, .int (nI t)), (4, .int (cduM x h t i_3)), (5, .int (nI (nt x 18 h + i_3)))] → W p l e rm_X1_due s m args below meth c H locs 0 0 Q (F0 m 9 ls []) := by
    intro n9
    induction n9 with
    | zero =>
      intro i_3 hi H locs ls hM hS hl 
      have hi : t - nt x 18 h = i_3 := by omega
      subst hi
      refine lv_iload hx hb dX1_due_9 (lv_at hl 5 rfl) ?_
      refine lv_iload_n hx hb dX1_due_11 rfl (lv_at hl 3 rfl) ?_
      refine lv_icmp_ge (tgt := 118) hx hb dX1_due_12 (by decide) (fun _ => ?_) (fun c9 => absurd (nI_le (by omega) (by omega)) c9)
      refine lv_bipush (v := 100) hx hb dX1_due_118 (by decide) ?_
      refine lv_iload_n hx hb dX1_due_120 rfl (lv_at hl 2 rfl) ?_
      refine lv_iload hx hb dX1_due_121 (lv_at hl 4 rfl) ?_
      refine m_cpi (m_rS (As := [.int tl, .int (cduM x h t (t - nt x 18 h))]) (rest := [.int 100]) hcf (k_J11_min l g A (cwM g ad Mx x) tl (cduM x h t (t - nt x 18 h))) (va_cwS 2 hts (lw_S q496 q497 q50 q498) rfl rfl rfl (by decide +kernel) ⟨Nat.le_of_ble_eq_true rfl, Nat.le_of_ble_eq_true rfl⟩) hE hA hM hS rfl hl.1 rfl (Nat.le_of_ble_eq_true rfl) dX1_due_123 ⟨Nat.le_of_ble_eq_true rfl, Nat.le_of_ble_eq_true rfl⟩) hS (fun H locs hM hS => ?_)
      refine lv_imul hx hb dX1_due_126 ?_
      rw [← hQ]
      exact m_iret () hx hb hr rfl hlk hM hS (by first | rfl | (unfold cdueF; rfl)) (by first | decide | omega) (by first | decide | omega) dX1_due_127
    | succ n9 ih =>
      intro i_3 hi H locs ls hM hS hl 
      have hlt_i_3 : i_3 < t - nt x 18 h := by omega
      refine lv_iload hx hb dX1_due_9 (lv_at hl 5 rfl) ?_
      refine lv_iload_n hx hb dX1_due_11 rfl (lv_at hl 3 rfl) ?_
      refine lv_icmp_ge (tgt := 118) hx hb dX1_due_12 (by decide) (fun c9 => absurd c9 (nI_ge (by omega) (by omega))) (fun _ => ?_)
      refine lv_iconst (v := 0) hx hb dX1_due_15 (by decide) ?_
      refine lv_istore (lv' := [(6, .int 0), (0, .ref (ad 0 0)), (1, .ref (ad 7 h)), (2, .int tl), (3, .int (nI t)), (4, .int (cduM x h t i_3)), (5, .int (nI (nt x 18 h + i_3)))]) hx hb dX1_due_16 hl (by decide) rfl (fun ls hl => ?_)
      refine lv_iconst (v := 0) hx hb dX1_due_18 (by decide) ?_
      refine lv_istore (lv' := [(7, .int 0), (6, .int 0), (0, .ref (ad 0 0)), (1, .ref (ad 7 h)), (2, .int tl), (3, .int (nI t)), (4, .int (cduM x h t i_3)), (5, .int (nI (nt x 18 h + i_3)))]) hx hb dX1_due_19 hl (by decide) rfl (fun ls hl => ?_)
      have L_11 : ∀ (n9 i_11 : Nat), i_11 + n9 = nt x 19 0 → ∀ (H : Heap) (locs : List Loc) (ls : Array Slot), mW g.1 A (cwM g ad Mx x) H → va_S A s.heap H locs → lv_has ls 9 [(0, .ref (ad 0 0)), (1, .ref (ad 7 h)), (2, .int tl), (3, .int (nI t)), (4, .int (cduM x h t i_3)), (5, .int (nI (nt x 18 h + i_3))), (6, .int (cduZ x h t (nt x 18 h + i_3) i_11)), (7, .int (nI i_11))] → W p l e rm_X1_due s m args below meth c H locs 0 0 Q (F0 m 21 ls []) := by
        intro n9
        induction n9 with
        | zero =>
          intro i_11 hi H locs ls hM hS hl 
          have hi : nt x 19 0 = i_11 := by omega
          subst hi
          refine lv_iload hx hb dX1_due_21 (lv_at hl 7 rfl) ?_
          refine lv_aload_n hx hb dX1_due_23 rfl (lv_at hl 0 rfl) ?_
          refine m_get hx hb hts in_X1 hown hE hM 0 0 cw_0 (ci := 0) rfl 2 (by decide) (hts _ q181) (fun _ h9 => h9) rfl dX1_due_24 ?_
          refine m_cpi (m_rV (As := []) (rest := [.int (nI (nt x 19 0))]) hcf (k_J2_size l g A ad Mx x 1 (by omega)) (cwV 0 hts (lw_V q575 q576 q577 q38 q578) rfl rfl rfl (by decide +kernel) ⟨Nat.le_of_ble_eq_true rfl, Nat.le_of_ble_eq_true rfl⟩) hE hA hM hS 5 1 (cw_5 (by omega)) (ci := 8) rfl rfl hl.1 rfl (Nat.le_of_ble_eq_true rfl) dX1_due_27 ⟨Nat.le_of_ble_eq_true rfl, Nat.le_of_ble_eq_true rfl⟩) hS (fun H locs hM hS => ?_)
          refine m_topI (y := nI (nt x 19 0)) (hs1) ?_
          refine lv_icmp_ge (tgt := 97) hx hb dX1_due_30 (by decide) (fun _ => ?_) (fun c9 => absurd (nI_le (Nat.le_refl _) (by omega)) c9)
          refine lv_iload hx hb dX1_due_97 (lv_at hl 4 rfl) ?_
          refine lv_iload hx hb dX1_due_99 (lv_at hl 6 rfl) ?_
          have J_17 : ∀ (v_15 : Int32), ((if (cduZ x h t (nt x 18 h + i_3) (nt x 19 0)) = 0 then 0 else 1) = v_15) → W p l e rm_X1_due s m args below meth c H locs 0 0 Q (F0 m 109 ls [.int v_15, .int (cduM x h t i_3)]) := by
            intro v_15 ev_16
            refine lv_iadd hx hb dX1_due_109 ?_
            refine lv_istore (lv' := [(4, .int ((cduM x h t i_3) + v_15)), (0, .ref (ad 0 0)), (1, .ref (ad 7 h)), (2, .int tl), (3, .int (nI t)), (5, .int (nI (nt x 18 h + i_3))), (6, .int (cduZ x h t (nt x 18 h + i_3) (nt x 19 0))), (7, .int (nI (nt x 19 0)))]) hx hb dX1_due_110 hl (by decide) rfl (fun ls hl => ?_)
            refine lv_iinc (v := nI ((nt x 18 h + i_3) + 1)) (lv' := [(5, .int (nI ((nt x 18 h + i_3) + 1))), (4, .int ((cduM x h t i_3) + v_15)), (0, .ref (ad 0 0)), (1, .ref (ad 7 h)), (2, .int tl), (3, .int (nI t)), (6, .int (cduZ x h t (nt x 18 h + i_3) (nt x 19 0))), (7, .int (nI (nt x 19 0)))]) hx hb dX1_due_112 hl (k := 5) rfl (nI_add (nt x 18 h + i_3) 1) (by decide) rfl (fun ls hl => ?_)
            refine lv_goto (tgt := 9) hx hb dX1_due_115 (by decide) ?_
            exact ih (i_3 + 1) (by omega) H locs ls hM hS (lv_sub hl [2, 3, 4, 5, 1, 0] (by subst ev_16; rfl))
          refine lv_if_eq (tgt := 108) hx hb dX1_due_101 (by decide) (fun c_14 => ?_) (fun c_14 => ?_)
          · refine lv_iconst (v := 0) hx hb dX1_due_108 (by decide) ?_
            exact J_17 _ (by first | (rw [if_pos c_14]) | rfl | (simp only [c_14, if_true, if_false, ite_true, ite_false, not_false_eq_true, reduceIte]))
          · refine lv_iconst (v := 1) hx hb dX1_due_104 (by decide) ?_
            refine lv_goto (tgt := 109) hx hb dX1_due_105 (by decide) ?_
            exact J_17 _ (by first | (rw [if_neg c_14]) | rfl | (simp only [c_14, if_true, if_false, ite_true, ite_false, not_false_eq_true, reduceIte]))
        | succ n9 ih =>
          intro i_11 hi H locs ls hM hS hl 
          have hlt_i_11 : i_11 < nt x 19 0 := by omega
          have h20a : nt x 20 i_11 < 25 := (hok.h20 (by omega)).2
          refine lv_iload hx hb dX1_due_21 (lv_at hl 7 rfl) ?_
          refine lv_aload_n hx hb dX1_due_23 rfl (lv_at hl 0 rfl) ?_
          refine m_get hx hb hts in_X1 hown hE hM 0 0 cw_0 (ci := 0) rfl 2 (by decide) (hts _ q181) (fun _ h9 => h9) rfl dX1_due_24 ?_
          refine m_cpi (m_rV (As := []) (rest := [.int (nI i_11)]) hcf (k_J2_size l g A ad Mx x 1 (by omega)) (cwV 0 hts (lw_V q575 q576 q577 q38 q578) rfl rfl rfl (by decide +kernel) ⟨Nat.le_of_ble_eq_true rfl, Nat.le_of_ble_eq_true rfl⟩) hE hA hM hS 5 1 (cw_5 (by omega)) (ci := 8) rfl rfl hl.1 rfl (Nat.le_of_ble_eq_true rfl) dX1_due_27 ⟨Nat.le_of_ble_eq_true rfl, Nat.le_of_ble_eq_true rfl⟩) hS (fun H locs hM hS => ?_)
          refine m_topI (y := nI (nt x 19 0)) (hs1) ?_
          refine lv_icmp_ge (tgt := 97) hx hb dX1_due_30 (by decide) (fun c9 => absurd c9 (nI_ge (by omega) (by omega))) (fun _ => ?_)
          refine lv_aload_n hx hb dX1_due_33 rfl (lv_at hl 0 rfl) ?_
          refine m_get hx hb hts in_X1 hown hE hM 0 0 cw_0 (ci := 0) rfl 2 (by decide) (hts _ q181) (fun _ h9 => h9) rfl dX1_due_34 ?_
          refine lv_iload hx hb dX1_due_37 (lv_at hl 7 rfl) ?_
          refine m_cpr (m_rV (As := [.int (nI i_11)]) (rest := []) hcf (k_J2_get l g A ad Mx x hls 1 (by omega) i_11 (by show _ < nt x 19 0; omega)) (cwV 1 hts (lw_V q579 q580 q581 q38 q582) rfl rfl rfl (by decide +kernel) ⟨Nat.le_of_ble_eq_true rfl, Nat.le_of_ble_eq_true rfl⟩) hE hA hM hS 5 1 (cw_5 (by omega)) (ci := 8) rfl rfl hl.1 rfl (Nat.le_of_ble_eq_true rfl) dX1_due_39 ⟨Nat.le_of_ble_eq_true rfl, Nat.le_of_ble_eq_true rfl⟩) hS (fun H locs hM hS => ?_)
          refine va_castS hx hb hown (hts _ q624) (hE.1.1 6 _ rfl).2 (m_recv hE hM ((cw_8 (by omega)) : cwM g ad Mx x 8 i_11 = _) rfl) dX1_due_42 ?_
          refine lv_astore (lv' := [(8, .ref (ad 8 i_11)), (0, .ref (ad 0 0)), (1, .ref (ad 7 h)), (2, .int tl), (3, .int (nI t)), (4, .int (cduM x h t i_3)), (5, .int (nI (nt x 18 h + i_3))), (6, .int (cduZ x h t (nt x 18 h + i_3) i_11)), (7, .int (nI i_11))]) hx hb dX1_due_45 hl (by decide) rfl (fun ls hl => ?_)
          refine lv_iload hx hb dX1_due_47 (lv_at hl 7 rfl) ?_
          refine lv_aload hx hb dX1_due_49 (lv_at hl 0 rfl) ?_
          refine lv_aload_n hx hb dX1_due_51 rfl (lv_at hl 2 rfl) ?_
          refine m_cpi (m_rD (As := [.ref (ad 7 h)]) (rest := [.int (cduZ x h t (nt x 18 h + i_3) i_11)]) (x := ⟨"Wakeground$Borehole", "isWith", "(LWakeground$Placed;)Z"⟩) (owner := "Wakeground$Placed") hcf (k_X9_isWith l g A ad Mx x i_11 (by omega) (by omega) h (by omega) (by omega)) 1 (hE.df hts _ (List.mem_of_getElem? (i := 4) rfl)) (hE.df hts _ (List.mem_of_getElem? (i := 5) rfl)) rfl (hE.dld 2 rfl) q782 q1206 (lw_meth q784) rfl (by decide +kernel) rfl rfl ⟨Nat.le_of_ble_eq_true rfl, Nat.le_of_ble_eq_true rfl⟩ hE hA hM hS 8 i_11 (cw_8 (by omega)) (ci := 6) rfl rfl hl.1 rfl (Nat.le_of_ble_eq_true rfl) dX1_due_52 ⟨Nat.le_of_ble_eq_true rfl, Nat.le_of_ble_eq_true rfl⟩) hS (fun H locs hM hS => ?_)
          have J_32 : ∀ (H : Heap) (locs : List Loc) (v_30 : Int32), mW g.1 A (cwM g ad Mx x) H → va_S A s.heap H locs → ((if (cisW x i_11 h) = 0 then 0 else (if (chasF x i_11 (nI (nt x 18 h + i_3)) (nI t)) = 0 then 0 else (if (x.1 23 (3000 * i_11 + (5 * (nt x 18 h + i_3) + (nt x 15 h)))) < 0 then 0 else 1))) = v_30) → W p l e rm_X1_due s m args below meth c H locs 0 0 Q (F0 m 88 ls [.int v_30, .int (cduZ x h t (nt x 18 h + i_3) i_11)]) := by
            intro H locs v_30 hM hS ev_31
            refine lv_ior hx hb dX1_due_88 ?_
            refine lv_istore (lv' := [(6, .int ((cduZ x h t (nt x 18 h + i_3) i_11) ||| v_30)), (8, .ref (ad 8 i_11)), (0, .ref (ad 0 0)), (1, .ref (ad 7 h)), (2, .int tl), (3, .int (nI t)), (4, .int (cduM x h t i_3)), (5, .int (nI (nt x 18 h + i_3))), (7, .int (nI i_11))]) hx hb dX1_due_89 hl (by decide) rfl (fun ls hl => ?_)
            refine lv_iinc (v := nI (i_11 + 1)) (lv' := [(7, .int (nI (i_11 + 1))), (6, .int ((cduZ x h t (nt x 18 h + i_3) i_11) ||| v_30)), (8, .ref (ad 8 i_11)), (0, .ref (ad 0 0)), (1, .ref (ad 7 h)), (2, .int tl), (3, .int (nI t)), (4, .int (cduM x h t i_3)), (5, .int (nI (nt x 18 h + i_3)))]) hx hb dX1_due_91 hl (k := 8) rfl (nI_add i_11 1) (by decide) rfl (fun ls hl => ?_)
            refine lv_goto (tgt := 21) hx hb dX1_due_94 (by decide) ?_
            exact ih (i_11 + 1) (by omega) H locs ls hM hS (lv_sub hl [3, 4, 5, 6, 7, 8, 1, 0] (by subst ev_31; rfl))
          refine lv_if_eq (tgt := 87) hx hb dX1_due_55 (by decide) (fun c_25 => ?_) (fun c_25 => ?_)
          · refine lv_iconst (v := 0) hx hb dX1_due_87 (by decide) ?_
            exact J_32 H locs _ hM hS (by first | (rw [if_pos c_25]) | rfl | (simp only [c_25, if_true, if_false, ite_true, ite_false, not_false_eq_true, reduceIte]))
          · refine lv_aload hx hb dX1_due_58 (lv_at hl 0 rfl) ?_
            refine lv_iload hx hb dX1_due_60 (lv_at hl 6 rfl) ?_
            refine lv_iload_n hx hb dX1_due_62 rfl (lv_at hl 4 rfl) ?_
            refine m_cpi (m_rV (As := [.int (nI (nt x 18 h + i_3)), .int (nI t)]) (rest := [.int (cduZ x h t (nt x 18 h + i_3) i_11)]) hcf (k_X7_has l g A ad Mx x i_11 (by omega) (nI (nt x 18 h + i_3)) (nI t)) (cwV 2 hts (lw_V q785 q786 q787 q62 q788) rfl rfl rfl (by decide +kernel) ⟨Nat.le_of_ble_eq_true rfl, Nat.le_of_ble_eq_true rfl⟩) hE hA hM hS 8 i_11 (cw_8 (by omega)) (ci := 6) rfl rfl hl.1 rfl (Nat.le_of_ble_eq_true rfl) dX1_due_63 ⟨Nat.le_of_ble_eq_true rfl, Nat.le_of_ble_eq_true rfl⟩) hS (fun H locs hM hS => ?_)
            refine lv_if_eq (tgt := 87) hx hb dX1_due_66 (by decide) (fun c_27 => ?_) (fun c_27 => ?_)
            · refine lv_iconst (v := 0) hx hb dX1_due_87 (by decide) ?_
              exact J_32 H locs _ hM hS (by first | (rw [if_neg c_25, if_pos c_27]) | rfl | (simp only [c_25, c_27, if_true, if_false, ite_true, ite_false, not_false_eq_true, reduceIte]))
            · refine lv_aload hx hb dX1_due_69 (lv_at hl 0 rfl) ?_
              refine lv_iload hx hb dX1_due_71 (lv_at hl 6 rfl) ?_
              refine lv_aload_n hx hb dX1_due_73 rfl (lv_at hl 2 rfl) ?_
              refine m_get hx hb hts in_X6 hown hE hM 7 h (cw_7 (by omega)) (ci := 5) rfl 1 (by decide) (hts _ q664) (fun _ h9 => h9) rfl dX1_due_74 ?_
              refine m_topI (y := nI (nt x 15 h)) (h15a) ?_
              refine m_cpi (m_rV (As := [.int (nI (nt x 18 h + i_3)), .int (nI (nt x 15 h))]) (rest := [.int (cduZ x h t (nt x 18 h + i_3) i_11)]) hcf (k_X7_told l g A ad Mx x i_11 (by omega) (nt x 18 h + i_3) (nt x 15 h) (by omega) (by omega)) (cwV 2 hts (lw_V q789 q790 q791 q62 q792) rfl rfl rfl (by decide +kernel) ⟨Nat.le_of_ble_eq_true rfl, Nat.le_of_ble_eq_true rfl⟩) hE hA hM hS 8 i_11 (cw_8 (by omega)) (ci := 6) rfl rfl hl.1 rfl (Nat.le_of_ble_eq_true rfl) dX1_due_77 ⟨Nat.le_of_ble_eq_true rfl, Nat.le_of_ble_eq_true rfl⟩) hS (fun H locs hM hS => ?_)
              refine lv_if_lt (tgt := 87) hx hb dX1_due_80 (by decide) (fun c_29 => ?_) (fun c_29 => ?_)
              · refine lv_iconst (v := 0) hx hb dX1_due_87 (by decide) ?_
                exact J_32 H locs _ hM hS (by first | (rw [if_neg c_25, if_neg c_27, if_pos c_29]) | rfl | (simp only [c_25, c_27, c_29, if_true, if_false, ite_true, ite_false, not_false_eq_true, reduceIte]))
              · refine lv_iconst (v := 1) hx hb dX1_due_83 (by decide) ?_
                refine lv_goto (tgt := 88) hx hb dX1_due_84 (by decide) ?_
                exact J_32 H locs _ hM hS (by first | (rw [if_neg c_25, if_neg c_27, if_neg c_29]) | rfl | (simp only [c_25, c_27, c_29, if_true, if_false, ite_true, ite_false, not_false_eq_true, reduceIte]))
      exact L_11 (nt x 19 0) 0 (by omega) H locs ls hM hS (lv_sub hl [2, 3, 4, 5, 6, 7, 1, 0] rfl)
  exact L_3 (t - nt x 18 h) 0 (by omega) H locs ls hM hS (lv_sub hl [2, 3, 4, 5, 1, 0] rfl)

abbrev rm_X1_claimOf_ok : Room := { frames := 4, cells := 0, slots := 0, locals := 85 }
set_option maxHeartbeats 400000 in
theorem k_X1_claimOf_ok (l : Launch) (g : GG) (A : Nat → Prop) (ad : Nat → Nat → Nat) (Mx : MM) (x : St) (hls : lsOK x) (n : Nat) (hn : n < nt x 24 0) : Met l yX1_claimOf (ws_ yX1_claimOf cX1_claimOf 2 (some .int)) rm_X1_claimOf_ok (va_Pc [.ref (ad 0 0), .int (nI n)] (mPre g A (cwM g ad Mx x))) (pQi g A (x.1 25 n) (cwM g ad Mx x)) 0 0 A := by
  refine m_start RX1 rfl (by decide) (Nat.le_of_ble_eq_true rfl) ?_
  intro p e s m args below meth c hcf hr hlk hnm hE hA H locs hM hS ls hl
  have hx := hcf.1
  have hb := hcf.2.1
  have hml := hcf.2.2.1
  have hown := hcf.2.2.2.1
  have hts := hcf.2.2.2.2
  have hl : lv_has ls 2 [(0, .ref (ad 0 0)), (1, .int (nI n))] := hl
  generalize hQ : MQ below (pQi g A (x.1 25 n) (cwM g ad Mx x)) args s 0 0 A = Q
  refine lv_aload_n hx hb dX1_claimOf_0 rfl (lv_at hl 0 rfl) ?_
  refine lv_iload_n hx hb dX1_claimOf_1 rfl (lv_at hl 1 rfl) ?_
  refine m_cpr (m_rV (As := [.int (nI n)]) (rest := []) hcf (k_X1_claimAt_ok l g A ad Mx x hls n hn) (cwV 1 hts (lw_V q902 q904 qs15 q35 q905) rfl rfl rfl (by decide +kernel) ⟨Nat.le_of_ble_eq_true rfl, Nat.le_of_ble_eq_true rfl⟩) hE hA hM hS 0 0 cw_0 (ci := 0) rfl rfl hl.1 rfl (Nat.le_of_ble_eq_true rfl) dX1_claimOf_2 ⟨Nat.le_of_ble_eq_true rfl, Nat.le_of_ble_eq_true rfl⟩) hS (fun H locs hM hS => ?_)
  refine m_get hx hb hts in_X8 hown hE hM 10 n (cw_10 (by omega)) (ci := 7) rfl 3 (by decide) (hts _ q804) (fun _ h9 => h9) rfl dX1_claimOf_5 ?_
  rw [← hQ]
  exact m_iret () hx hb hr rfl hlk hM hS (by first | rfl) (by first | decide | omega) (by first | decide | omega) dX1_claimOf_8

abbrev rm_X1_claimOf_no : Room := { frames := 8, cells := 1, slots := 6, locals := 123 }
set_option maxHeartbeats 400000 in
theorem k_X1_claimOf_no (l : Launch) (g : GG) (A : Nat → Prop) (hlt : l.stackTraces = false) (ad : Nat → Nat → Nat) (Mx : MM) (x : St) (hls : lsOK x) (a0 : Int32) (h0 : inF a0 0 (nI (nt x 24 0) - 1) = 0) : vx_Met l yX1_claimOf (ws_ yX1_claimOf cX1_claimOf 2 (some .int)) rm_X1_claimOf_no (va_Pc [.ref (ad 0 0), .int a0] (mPre g A (cwM g ad Mx x))) pNo (mX g A "java/lang/IndexOutOfBoundsException" (cwM g ad Mx x)) 1 6 A := by
  refine m_startX RX1 rfl (by decide) (Nat.le_of_ble_eq_true rfl) ?_
  intro p e s m args below meth c hcf hr hlk hnm hE hA ht H locs hM hS ls hl
  have hx := hcf.1
  have hb := hcf.2.1
  have hml := hcf.2.2.1
  have hown := hcf.2.2.2.1
  have hts := hcf.2.2.2.2
  have hl : lv_has ls 2 [(0, .ref (ad 0 0)), (1, .int a0)] := hl
  generalize hQ : vx_MQ below pNo (mX g A "java/lang/IndexOutOfBoundsException" (cwM g ad Mx x)) args s 1 6 A = Q
  refine lv_aload_n hx hb dX1_claimOf_0 rfl (lv_at hl 0 rfl) ?_
  refine lv_iload_n hx hb dX1_claimOf_1 rfl (lv_at hl 1 rfl) ?_
  rw [← hQ]
  exact m_xend (m_xV (As := [.int a0]) (rest := []) hcf (k_X1_claimAt_no l g A hlt ad Mx x hls a0 h0) (cwV 1 hts (lw_V q902 q904 qs15 q35 q905) rfl rfl rfl (by decide +kernel) ⟨Nat.le_of_ble_eq_true rfl, Nat.le_of_ble_eq_true rfl⟩) hE hA hM hS 0 0 cw_0 (ci := 0) rfl rfl hl.1 rfl (Nat.le_of_ble_eq_true rfl) dX1_claimOf_2 ⟨Nat.le_of_ble_eq_true rfl, Nat.le_of_ble_eq_true rfl⟩) ht hlk hS (Nat.le_of_ble_eq_true rfl) (Nat.le_of_ble_eq_true rfl)

abbrev rm_X1_claimAnew_ok : Room := { frames := 4, cells := 0, slots := 0, locals := 92 }
set_option maxHeartbeats 400000 in
theorem k_X1_claimAnew_ok (l : Launch) (g : GG) (A : Nat → Prop) (ad : Nat → Nat → Nat) (Mx : MM) (x : St) (hls : lsOK x) (hok : okM x) (n : Nat) (hn : n < nt x 24 0) (h40 : nt x 40 n < nt x 13 0) (h42 : x.1 42 n = nI (nt x 42 n)) (h42b : nt x 42 n ≤ 600) : Met l yX1_claimAnew (ws_ yX1_claimAnew cX1_claimAnew 3 (some .int)) rm_X1_claimAnew_ok (va_Pc [.ref (ad 0 0), .int (nI n)] (mPre g A (cwM g ad Mx x))) (pQi g A (cdueF x (nt x 40 n) (x.1 41 n) (nt x 42 n)) (cwM g ad Mx x)) 0 0 A := by
  refine m_start RX1 rfl (by decide) (Nat.le_of_ble_eq_true rfl) ?_
  intro p e s m args below meth c hcf hr hlk hnm hE hA H locs hM hS ls hl
  have hx := hcf.1
  have hb := hcf.2.1
  have hml := hcf.2.2.1
  have hown := hcf.2.2.2.1
  have hts := hcf.2.2.2.2
  have hl : lv_has ls 3 [(0, .ref (ad 0 0)), (1, .int (nI n))] := hl
  generalize hQ : MQ below (pQi g A (cdueF x (nt x 40 n) (x.1 41 n) (nt x 42 n)) (cwM g ad Mx x)) args s 0 0 A = Q
  refine lv_aload_n hx hb dX1_claimAnew_0 rfl (lv_at hl 0 rfl) ?_
  refine lv_iload_n hx hb dX1_claimAnew_1 rfl (lv_at hl 1 rfl) ?_
  refine m_cpr (m_rV (As := [.int (nI n)]) (rest := []) hcf (k_X1_claimAt_ok l g A ad Mx x hls n hn) (cwV 1 hts (lw_V q902 q904 qs15 q35 q905) rfl rfl rfl (by decide +kernel) ⟨Nat.le_of_ble_eq_true rfl, Nat.le_of_ble_eq_true rfl⟩) hE hA hM hS 0 0 cw_0 (ci := 0) rfl rfl hl.1 rfl (Nat.le_of_ble_eq_true rfl) dX1_claimAnew_2 ⟨Nat.le_of_ble_eq_true rfl, Nat.le_of_ble_eq_true rfl⟩) hS (fun H locs hM hS => ?_)
  refine lv_astore_n (lv' := [(2, .ref (ad 10 n)), (0, .ref (ad 0 0)), (1, .int (nI n))]) hx hb dX1_claimAnew_5 rfl hl (by decide) rfl (fun ls hl => ?_)
  refine lv_aload_n hx hb dX1_claimAnew_6 rfl (lv_at hl 1 rfl) ?_
  refine lv_aload_n hx hb dX1_claimAnew_7 rfl (lv_at hl 0 rfl) ?_
  refine m_get hx hb hts in_X8 hown hE hM 10 n (cw_10 (by omega)) (ci := 7) rfl 0 (by decide) (hts _ q798) (fun _ h9 => h9) rfl dX1_claimAnew_8 ?_
  refine lv_aload_n hx hb dX1_claimAnew_11 rfl (lv_at hl 0 rfl) ?_
  refine m_get hx hb hts in_X8 hown hE hM 10 n (cw_10 (by omega)) (ci := 7) rfl 1 (by decide) (hts _ q800) (fun _ h9 => h9) rfl dX1_claimAnew_12 ?_
  refine lv_aload_n hx hb dX1_claimAnew_15 rfl (lv_at hl 0 rfl) ?_
  refine m_get hx hb hts in_X8 hown hE hM 10 n (cw_10 (by omega)) (ci := 7) rfl 2 (by decide) (hts _ q802) (fun _ h9 => h9) rfl dX1_claimAnew_16 ?_
  refine m_topI (y := nI (nt x 42 n)) (h42) ?_
  refine m_cpi (m_rV (As := [.ref (ad 7 (nt x 40 n)), .int (x.1 41 n), .int (nI (nt x 42 n))]) (rest := []) hcf (k_X1_due l g A ad Mx x hls hok (nt x 40 n) (by omega) (x.1 41 n) (nt x 42 n) (by omega)) (cwV 3 hts (lw_V q776 q778 qs14 q35 q779) rfl rfl rfl (by decide +kernel) ⟨Nat.le_of_ble_eq_true rfl, Nat.le_of_ble_eq_true rfl⟩) hE hA hM hS 0 0 cw_0 (ci := 0) rfl rfl hl.1 rfl (Nat.le_of_ble_eq_true rfl) dX1_claimAnew_19 ⟨Nat.le_of_ble_eq_true rfl, Nat.le_of_ble_eq_true rfl⟩) hS (fun H locs hM hS => ?_)
  rw [← hQ]
  exact m_iret () hx hb hr rfl hlk hM hS (by first | rfl) (by first | decide | omega) (by first | decide | omega) dX1_claimAnew_22

abbrev rm_X1_claimAnew_no : Room := { frames := 8, cells := 1, slots := 6, locals := 123 }
set_option maxHeartbeats 400000 in
theorem k_X1_claimAnew_no (l : Launch) (g : GG) (A : Nat → Prop) (hlt : l.stackTraces = false) (ad : Nat → Nat → Nat) (Mx : MM) (x : St) (hls : lsOK x) (a0 : Int32) (h0 : inF a0 0 (nI (nt x 24 0) - 1) = 0) : vx_Met l yX1_claimAnew (ws_ yX1_claimAnew cX1_claimAnew 3 (some .int)) rm_X1_claimAnew_no (va_Pc [.ref (ad 0 0), .int a0] (mPre g A (cwM g ad Mx x))) pNo (mX g A "java/lang/IndexOutOfBoundsException" (cwM g ad Mx x)) 1 6 A := by
  refine m_startX RX1 rfl (by decide) (Nat.le_of_ble_eq_true rfl) ?_
  intro p e s m args below meth c hcf hr hlk hnm hE hA ht H locs hM hS ls hl
  have hx := hcf.1
  have hb := hcf.2.1
  have hml := hcf.2.2.1
  have hown := hcf.2.2.2.1
  have hts := hcf.2.2.2.2
  have hl : lv_has ls 3 [(0, .ref (ad 0 0)), (1, .int a0)] := hl
  generalize hQ : vx_MQ below pNo (mX g A "java/lang/IndexOutOfBoundsException" (cwM g ad Mx x)) args s 1 6 A = Q
  refine lv_aload_n hx hb dX1_claimAnew_0 rfl (lv_at hl 0 rfl) ?_
  refine lv_iload_n hx hb dX1_claimAnew_1 rfl (lv_at hl 1 rfl) ?_
  rw [← hQ]
  exact m_xend (m_xV (As := [.int a0]) (rest := []) hcf (k_X1_claimAt_no l g A hlt ad Mx x hls a0 h0) (cwV 1 hts (lw_V q902 q904 qs15 q35 q905) rfl rfl rfl (by decide +kernel) ⟨Nat.le_of_ble_eq_true rfl, Nat.le_of_ble_eq_true rfl⟩) hE hA hM hS 0 0 cw_0 (ci := 0) rfl rfl hl.1 rfl (Nat.le_of_ble_eq_true rfl) dX1_claimAnew_2 ⟨Nat.le_of_ble_eq_true rfl, Nat.le_of_ble_eq_true rfl⟩) ht hlk hS (Nat.le_of_ble_eq_true rfl) (Nat.le_of_ble_eq_true rfl)

abbrev rm_X1_houseOf_ok : Room := { frames := 4, cells := 0, slots := 0, locals := 92 }
set_option maxHeartbeats 400000 in
theorem k_X1_houseOf_ok (l : Launch) (g : GG) (A : Nat → Prop) (ad : Nat → Nat → Nat) (Mx : MM) (x : St) (hls : lsOK x) (hok : okM x) (h : Nat) (hh : h < nt x 13 0) (w : Nat) (hw : w < 5) : Met l yX1_houseOf (ws_ yX1_houseOf cX1_houseOf 4 (some .int)) rm_X1_houseOf_ok (va_Pc [.ref (ad 0 0), .int (nI h), .int (nI w)] (mPre g A (cwM g ad Mx x))) (pQi g A (chfF x h w) (cwM g ad Mx x)) 0 0 A := by
  refine m_start RX1 rfl (by decide) (Nat.le_of_ble_eq_true rfl) ?_
  intro p e s m args below meth c hcf hr hlk hnm hE hA H locs hM hS ls hl
  have hx := hcf.1
  have hb := hcf.2.1
  have hml := hcf.2.2.1
  have hown := hcf.2.2.2.1
  have hts := hcf.2.2.2.2
  have hl : lv_has ls 4 [(0, .ref (ad 0 0)), (1, .int (nI h)), (2, .int (nI w))] := hl
  obtain ⟨hb13, hb19, hb24, hs0, hs1, hs2⟩ := hls_n x hls
  have hbo13 : nt x 13 0 < 11 := hok.h13.2
  have hbo19 : nt x 19 0 < 11 := hok.h19.2
  have hc14 : nt x 14 h < 25 := (hok.h14 (by omega)).2
  have h15a : x.1 15 h = nI (nt x 15 h) := (hok.h15 (by omega)).1
  have h15b : nt x 15 h < 5 := (hok.h15 (by omega)).2
  have h18a : x.1 18 h = nI (nt x 18 h) := (hok.h18 (by omega)).1
  have h18b : nt x 18 h < 601 := (hok.h18 (by omega)).2
  have hm6 : nt x 1 0 < 601 := hok.h1.2
  generalize hQ : MQ below (pQi g A (chfF x h w) (cwM g ad Mx x)) args s 0 0 A = Q
  refine lv_aload_n hx hb dX1_houseOf_0 rfl (lv_at hl 0 rfl) ?_
  refine lv_iload_n hx hb dX1_houseOf_1 rfl (lv_at hl 1 rfl) ?_
  refine m_cpr (m_rV (As := [.int (nI h)]) (rest := []) hcf (k_X1_houseAt_ok l g A ad Mx x hls h hh) (cwV 1 hts (lw_V q770 q772 qs13 q35 q773) rfl rfl rfl (by decide +kernel) ⟨Nat.le_of_ble_eq_true rfl, Nat.le_of_ble_eq_true rfl⟩) hE hA hM hS 0 0 cw_0 (ci := 0) rfl rfl hl.1 rfl (Nat.le_of_ble_eq_true rfl) dX1_houseOf_2 ⟨Nat.le_of_ble_eq_true rfl, Nat.le_of_ble_eq_true rfl⟩) hS (fun H locs hM hS => ?_)
  refine lv_astore_n (lv' := [(3, .ref (ad 7 h)), (0, .ref (ad 0 0)), (1, .int (nI h)), (2, .int (nI w))]) hx hb dX1_houseOf_5 rfl hl (by decide) rfl (fun ls hl => ?_)
  refine lv_iload_n hx hb dX1_houseOf_6 rfl (lv_at hl 3 rfl) ?_
  refine lv_iconst (v := 0) hx hb dX1_houseOf_7 (by decide) ?_
  refine lv_iconst (v := 4) hx hb dX1_houseOf_8 (by decide) ?_
  refine m_cpi (m_rS (As := [.int (nI w), .int 0, .int 4]) (rest := []) hcf (k_X1_isIn l g A (cwM g ad Mx x) (nI w) 0 4) (va_cwS 3 hts (lw_S q420 q421 q35 q422) rfl rfl rfl (by decide +kernel) ⟨Nat.le_of_ble_eq_true rfl, Nat.le_of_ble_eq_true rfl⟩) hE hA hM hS rfl hl.1 rfl (Nat.le_of_ble_eq_true rfl) dX1_houseOf_9 ⟨Nat.le_of_ble_eq_true rfl, Nat.le_of_ble_eq_true rfl⟩) hS (fun H locs hM hS => ?_)
  refine m_topI (y := 1) (inF_fou hw) ?_
  refine m_cpv (m_rS (As := [.int 1]) (rest := []) hcf (k_X1_inRange_ok l g A (cwM g ad Mx x)) (va_cwS 1 hts (lw_S q439 q440 q35 q441) rfl rfl rfl (by decide +kernel) ⟨Nat.le_of_ble_eq_true rfl, Nat.le_of_ble_eq_true rfl⟩) hE hA hM hS rfl hl.1 rfl (Nat.le_of_ble_eq_true rfl) dX1_houseOf_12 ⟨Nat.le_of_ble_eq_true rfl, Nat.le_of_ble_eq_true rfl⟩) hS (fun H locs hM hS => ?_)
  refine lv_iload_n hx hb dX1_houseOf_15 rfl (lv_at hl 3 rfl) ?_
  obtain rfl | rfl | rfl | rfl | rfl : w = 0 ∨ w = 1 ∨ w = 2 ∨ w = 3 ∨ w = 4 := by omega
  · refine lv_tableIn hx hb dX1_houseOf_16 (off := 32) (tgt := 48) (by decide +kernel) (by decide +kernel) rfl (by decide) ?_
    refine lv_aload_n hx hb dX1_houseOf_48 rfl (lv_at hl 0 rfl) ?_
    refine m_cpr (m_rV (As := []) (rest := []) hcf (k_X6_cell l g A ad Mx x h (by omega)) (cwV 0 hts (lw_V q887 q617 q1204 q58 q619) rfl rfl rfl (by decide +kernel) ⟨Nat.le_of_ble_eq_true rfl, Nat.le_of_ble_eq_true rfl⟩) hE hA hM hS 7 h (cw_7 (by omega)) (ci := 5) rfl rfl hl.1 rfl (Nat.le_of_ble_eq_true rfl) dX1_houseOf_49 ⟨Nat.le_of_ble_eq_true rfl, Nat.le_of_ble_eq_true rfl⟩) hS (fun H locs hM hS => ?_)
    refine m_get hx hb hts in_X2 hown hE hM 2 (nt x 14 h) (cw_2 (by omega)) (ci := 2) rfl 0 (by decide) (hts _ q137) (fun _ h9 => h9) rfl dX1_houseOf_52 ?_
    rw [← hQ]
    exact m_iret () hx hb hr rfl hlk hM hS (by first | rfl | (unfold chfF; rfl)) (by first | decide | omega) (by first | decide | omega) dX1_houseOf_55
  · refine lv_tableIn hx hb dX1_houseOf_16 (off := 40) (tgt := 56) (by decide +kernel) (by decide +kernel) rfl (by decide) ?_
    refine lv_aload_n hx hb dX1_houseOf_56 rfl (lv_at hl 0 rfl) ?_
    refine m_get hx hb hts in_X6 hown hE hM 7 h (cw_7 (by omega)) (ci := 5) rfl 1 (by decide) (hts _ q664) (fun _ h9 => h9) rfl dX1_houseOf_57 ?_
    rw [← hQ]
    exact m_iret () hx hb hr rfl hlk hM hS (by first | rfl | (unfold chfF; rfl)) (by first | decide | omega) (by first | decide | omega) dX1_houseOf_60
  · refine lv_tableIn hx hb dX1_houseOf_16 (off := 45) (tgt := 61) (by decide +kernel) (by decide +kernel) rfl (by decide) ?_
    refine lv_aload_n hx hb dX1_houseOf_61 rfl (lv_at hl 0 rfl) ?_
    refine m_get hx hb hts in_X6 hown hE hM 7 h (cw_7 (by omega)) (ci := 5) rfl 4 (by decide) (hts _ q670) (fun _ h9 => h9) rfl dX1_houseOf_62 ?_
    rw [← hQ]
    exact m_iret () hx hb hr rfl hlk hM hS (by first | rfl | (unfold chfF; rfl)) (by first | decide | omega) (by first | decide | omega) dX1_houseOf_65
  · refine lv_tableIn hx hb dX1_houseOf_16 (off := 50) (tgt := 66) (by decide +kernel) (by decide +kernel) rfl (by decide) ?_
    refine lv_aload_n hx hb dX1_houseOf_66 rfl (lv_at hl 0 rfl) ?_
    refine m_get hx hb hts in_X6 hown hE hM 7 h (cw_7 (by omega)) (ci := 5) rfl 3 (by decide) (hts _ q667) (fun _ h9 => h9) rfl dX1_houseOf_67 ?_
    rw [← hQ]
    exact m_iret () hx hb hr rfl hlk hM hS (by first | rfl | (unfold chfF; rfl)) (by first | decide | omega) (by first | decide | omega) dX1_houseOf_70
  · refine lv_tableOut hx hb dX1_houseOf_16 (tgt := 71) (by decide +kernel) (by decide) ?_
    refine lv_aload_n hx hb dX1_houseOf_71 rfl (lv_at hl 1 rfl) ?_
    refine lv_aload_n hx hb dX1_houseOf_72 rfl (lv_at hl 0 rfl) ?_
    refine lv_aload_n hx hb dX1_houseOf_73 rfl (lv_at hl 0 rfl) ?_
    refine m_get hx hb hts in_X6 hown hE hM 7 h (cw_7 (by omega)) (ci := 5) rfl 4 (by decide) (hts _ q670) (fun _ h9 => h9) rfl dX1_houseOf_74 ?_
    refine lv_aload_n hx hb dX1_houseOf_77 rfl (lv_at hl 1 rfl) ?_
    refine m_get hx hb hts in_X1 hown hE hM 0 0 cw_0 (ci := 0) rfl 7 (by decide) (hts _ q187) (fun _ h9 => h9) rfl dX1_houseOf_78 ?_
    refine m_topI (y := nI (nt x 1 0)) (hok.h1.1) ?_
    refine m_cpi (m_rV (As := [.ref (ad 7 h), .int (x.1 17 h), .int (nI (nt x 1 0))]) (rest := []) hcf (k_X1_due l g A ad Mx x hls hok h (by omega) (x.1 17 h) (nt x 1 0) (by omega)) (cwV 3 hts (lw_V q776 q778 qs14 q35 q779) rfl rfl rfl (by decide +kernel) ⟨Nat.le_of_ble_eq_true rfl, Nat.le_of_ble_eq_true rfl⟩) hE hA hM hS 0 0 cw_0 (ci := 0) rfl rfl hl.1 rfl (Nat.le_of_ble_eq_true rfl) dX1_houseOf_81 ⟨Nat.le_of_ble_eq_true rfl, Nat.le_of_ble_eq_true rfl⟩) hS (fun H locs hM hS => ?_)
    rw [← hQ]
    exact m_iret () hx hb hr rfl hlk hM hS (by first | rfl | (unfold chfF; rfl)) (by first | decide | omega) (by first | decide | omega) dX1_houseOf_84

abbrev rm_X1_houseOf_n1 : Room := { frames := 8, cells := 1, slots := 6, locals := 123 }
set_option maxHeartbeats 400000 in
theorem k_X1_houseOf_n1 (l : Launch) (g : GG) (A : Nat → Prop) (hlt : l.stackTraces = false) (ad : Nat → Nat → Nat) (Mx : MM) (x : St) (hls : lsOK x) (a0 a1 : Int32) (h0 : inF a0 0 (nI (nt x 13 0) - 1) = 0) : vx_Met l yX1_houseOf (ws_ yX1_houseOf cX1_houseOf 4 (some .int)) rm_X1_houseOf_n1 (va_Pc [.ref (ad 0 0), .int a0, .int a1] (mPre g A (cwM g ad Mx x))) pNo (mX g A "java/lang/IndexOutOfBoundsException" (cwM g ad Mx x)) 1 6 A := by
  refine m_startX RX1 rfl (by decide) (Nat.le_of_ble_eq_true rfl) ?_
  intro p e s m args below meth c hcf hr hlk hnm hE hA ht H locs hM hS ls hl
  have hx := hcf.1
  have hb := hcf.2.1
  have hml := hcf.2.2.1
  have hown := hcf.2.2.2.1
  have hts := hcf.2.2.2.2
  have hl : lv_has ls 4 [(0, .ref (ad 0 0)), (1, .int a0), (2, .int a1)] := hl
  generalize hQ : vx_MQ below pNo (mX g A "java/lang/IndexOutOfBoundsException" (cwM g ad Mx x)) args s 1 6 A = Q
  refine lv_aload_n hx hb dX1_houseOf_0 rfl (lv_at hl 0 rfl) ?_
  refine lv_iload_n hx hb dX1_houseOf_1 rfl (lv_at hl 1 rfl) ?_
  rw [← hQ]
  exact m_xend (m_xV (As := [.int a0]) (rest := []) hcf (k_X1_houseAt_no l g A hlt ad Mx x hls a0 h0) (cwV 1 hts (lw_V q770 q772 qs13 q35 q773) rfl rfl rfl (by decide +kernel) ⟨Nat.le_of_ble_eq_true rfl, Nat.le_of_ble_eq_true rfl⟩) hE hA hM hS 0 0 cw_0 (ci := 0) rfl rfl hl.1 rfl (Nat.le_of_ble_eq_true rfl) dX1_houseOf_2 ⟨Nat.le_of_ble_eq_true rfl, Nat.le_of_ble_eq_true rfl⟩) ht hlk hS (Nat.le_of_ble_eq_true rfl) (Nat.le_of_ble_eq_true rfl)

abbrev rm_X1_houseOf_n2 : Room := { frames := 7, cells := 1, slots := 6, locals := 102 }
set_option maxHeartbeats 400000 in
theorem k_X1_houseOf_n2 (l : Launch) (g : GG) (A : Nat → Prop) (hlt : l.stackTraces = false) (ad : Nat → Nat → Nat) (Mx : MM) (x : St) (hls : lsOK x) (h : Nat) (hh : h < nt x 13 0) (a1 : Int32) (hw : inF a1 0 4 = 0) : vx_Met l yX1_houseOf (ws_ yX1_houseOf cX1_houseOf 4 (some .int)) rm_X1_houseOf_n2 (va_Pc [.ref (ad 0 0), .int (nI h), .int a1] (mPre g A (cwM g ad Mx x))) pNo (mX g A "java/lang/IllegalArgumentException" (cwM g ad Mx x)) 1 6 A := by
  refine m_startX RX1 rfl (by decide) (Nat.le_of_ble_eq_true rfl) ?_
  intro p e s m args below meth c hcf hr hlk hnm hE hA ht H locs hM hS ls hl
  have hx := hcf.1
  have hb := hcf.2.1
  have hml := hcf.2.2.1
  have hown := hcf.2.2.2.1
  have hts := hcf.2.2.2.2
  have hl : lv_has ls 4 [(0, .ref (ad 0 0)), (1, .int (nI h)), (2, .int a1)] := hl
  generalize hQ : vx_MQ below pNo (mX g A "java/lang/IllegalArgumentException" (cwM g ad Mx x)) args s 1 6 A = Q
  refine lv_aload_n hx hb dX1_houseOf_0 rfl (lv_at hl 0 rfl) ?_
  refine lv_iload_n hx hb dX1_houseOf_1 rfl (lv_at hl 1 rfl) ?_
  refine m_cpr (m_rV (As := [.int (nI h)]) (rest := []) hcf (k_X1_houseAt_ok l g A ad Mx x hls h hh) (cwV 1 hts (lw_V q770 q772 qs13 q35 q773) rfl rfl rfl (by decide +kernel) ⟨Nat.le_of_ble_eq_true rfl, Nat.le_of_ble_eq_true rfl⟩) hE hA hM hS 0 0 cw_0 (ci := 0) rfl rfl hl.1 rfl (Nat.le_of_ble_eq_true rfl) dX1_houseOf_2 ⟨Nat.le_of_ble_eq_true rfl, Nat.le_of_ble_eq_true rfl⟩) hS (fun H locs hM hS => ?_)
  refine lv_astore_n (lv' := [(3, .ref (ad 7 h)), (0, .ref (ad 0 0)), (1, .int (nI h)), (2, .int a1)]) hx hb dX1_houseOf_5 rfl hl (by decide) rfl (fun ls hl => ?_)
  refine lv_iload_n hx hb dX1_houseOf_6 rfl (lv_at hl 3 rfl) ?_
  refine lv_iconst (v := 0) hx hb dX1_houseOf_7 (by decide) ?_
  refine lv_iconst (v := 4) hx hb dX1_houseOf_8 (by decide) ?_
  refine m_cpi (m_rS (As := [.int a1, .int 0, .int 4]) (rest := []) hcf (k_X1_isIn l g A (cwM g ad Mx x) a1 0 4) (va_cwS 3 hts (lw_S q420 q421 q35 q422) rfl rfl rfl (by decide +kernel) ⟨Nat.le_of_ble_eq_true rfl, Nat.le_of_ble_eq_true rfl⟩) hE hA hM hS rfl hl.1 rfl (Nat.le_of_ble_eq_true rfl) dX1_houseOf_9 ⟨Nat.le_of_ble_eq_true rfl, Nat.le_of_ble_eq_true rfl⟩) hS (fun H locs hM hS => ?_)
  refine m_topI (y := 0) (hw) ?_
  rw [← hQ]
  exact m_xend (m_xS (As := [.int 0]) (rest := []) hcf (k_X1_inRange_no l g A hlt (cwM g ad Mx x)) (va_cwS 1 hts (lw_S q439 q440 q35 q441) rfl rfl rfl (by decide +kernel) ⟨Nat.le_of_ble_eq_true rfl, Nat.le_of_ble_eq_true rfl⟩) hE hA hM hS rfl hl.1 rfl (Nat.le_of_ble_eq_true rfl) dX1_houseOf_12 ⟨Nat.le_of_ble_eq_true rfl, Nat.le_of_ble_eq_true rfl⟩) ht hlk hS (Nat.le_of_ble_eq_true rfl) (Nat.le_of_ble_eq_true rfl)
