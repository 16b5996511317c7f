/-! the law's own wrappers: what is asked -/
set_option maxRecDepth 100000
abbrev rm_X0_cellOf_ok : Room := { frames := 6, cells := 25, slots := 50, locals := 131 }
theorem k_X0_cellOf_ok (l : Launch) (g : GG) (A : Nat → Prop) (ad : Nat → Nat → Nat) (x : St) (oa : Nat) (v : Int64) (hls : lsOK x) (hho : hoOK x) (k : Nat) (hk : k < 25) (w : Nat) (hw : w < 8) : Met l yX0_cellOf (wsW_ yX0_cellOf cX0_cellOf 5 (some .int) [(0, 10, 13, 13), (0, 10, 17, 15)]) rm_X0_cellOf_ok (va_Pc [.ref (ad 0 0), .int (nI k), .int (nI w), .ref oa] (mPre g A (cwM g ad (Mo g oa v) x))) (pQi g A 0 (cwM g ad (Mo g oa ((cceF x k w).toInt64)) (cceS x k w))) 25 50 A := by
  refine m_startW RX0 rfl (by decide) (Nat.le_of_ble_eq_true rfl) ?_
  intro p e s m args below meth c hcf hr hlk hnm hE hA htb H locs hM hS ls hl
  have hx := hcf.1
  have hb := hcf.2.1
  have hml := hcf.2.2.1
  have hown := hcf.2.2.2.1
  have hts := hcf.2.2.2.2
  have hl : lv_has ls 5 [(0, .ref (ad 0 0)), (1, .int (nI k)), (2, .int (nI w)), (3, .ref oa)] := hl
  generalize hQ : MQ below (pQi g A 0 (cwM g ad (Mo g oa ((cceF x k w).toInt64)) (cceS x k w))) args s 25 50 A = Q
  refine lv_aload_n hx hb dX0_cellOf_0 rfl (lv_at hl 3 rfl) ?_
  refine lv_iconst (v := 0) hx hb dX0_cellOf_1 (by decide) ?_
  refine lv_aload_n hx hb dX0_cellOf_2 rfl (lv_at hl 0 rfl) ?_
  refine lv_iload_n hx hb dX0_cellOf_3 rfl (lv_at hl 1 rfl) ?_
  refine lv_iload_n hx hb dX0_cellOf_4 rfl (lv_at hl 2 rfl) ?_
  refine m_cpi (m_rV (As := [.int (nI k), .int (nI w)]) (rest := [.int 0, .ref oa]) hcf (k_X1_cellOf_ok l g A ad (Mo g oa v) x hls hho k hk w hw (Mo_n _ _ _ (by decide))) (cwV 2 hts (lw_V q817 q818 q819 q35 q820) rfl rfl rfl (by decide +kernel) ⟨Nat.le_of_ble_eq_true rfl, Nat.le_of_ble_eq_true rfl⟩) hE hA hM hS 0 0 cw_0 (ci := 0) rfl rfl hl.1 rfl (Nat.le_of_ble_eq_true rfl) dX0_cellOf_5 ⟨Nat.le_of_ble_eq_true rfl, Nat.le_of_ble_eq_true rfl⟩) hS (fun H locs hM hS => ?_)
  obtain ⟨x_1, ex_2⟩ : ∃ z : St, cceS x k w = z := ⟨_, rfl⟩
  rw [ex_2] at hM
  refine lv_i2l hx hb dX0_cellOf_8 rfl ?_
  refine mo_st (w := (cceF x k w).toInt64) hcf hE hM hS dX0_cellOf_9 (fun H locs hM hS => ?_)
  refine lv_goto (tgt := 21) hx hb dX0_cellOf_10 (by decide) ?_
  refine lv_iconst (v := 0) hx hb dX0_cellOf_21 (by decide) ?_
  rw [← hQ]
  exact m_iret () hx hb hr rfl hlk (by rw [← ex_2] at hM; exact hM) hS (by subst ex_2; first | rfl) (by first | decide | omega) (by first | decide | omega) dX0_cellOf_22

abbrev rm_X0_cellOf_n1 : Room := { frames := 9, cells := 1, slots := 6, locals := 146 }
theorem k_X0_cellOf_n1 (l : Launch) (g : GG) (A : Nat → Prop) (hlt : l.stackTraces = false) (ad : Nat → Nat → Nat) (x : St) (oa : Nat) (v : Int64) (a0 a1 : Int32) (h0 : inF a0 0 24 = 0) : Met l yX0_cellOf (wsW_ yX0_cellOf cX0_cellOf 5 (some .int) [(0, 10, 13, 13), (0, 10, 17, 15)]) rm_X0_cellOf_n1 (va_Pc [.ref (ad 0 0), .int a0, .int a1, .ref oa] (mPre g A (cwM g ad (Mo g oa v) x))) (pQi g A 1 (cwM g ad (Mo g oa v) x)) 1 6 A := by
  refine m_startW RX0 rfl (by decide) (Nat.le_of_ble_eq_true rfl) ?_
  intro p e s m args below meth c hcf hr hlk hnm hE hA htb H locs hM hS ls hl
  have hx := hcf.1
  have hb := hcf.2.1
  have hml := hcf.2.2.1
  have hown := hcf.2.2.2.1
  have hts := hcf.2.2.2.2
  have hl : lv_has ls 5 [(0, .ref (ad 0 0)), (1, .int a0), (2, .int a1), (3, .ref oa)] := hl
  generalize hQ : MQ below (pQi g A 1 (cwM g ad (Mo g oa v) x)) args s 1 6 A = Q
  refine lv_aload_n hx hb dX0_cellOf_0 rfl (lv_at hl 3 rfl) ?_
  refine lv_iconst (v := 0) hx hb dX0_cellOf_1 (by decide) ?_
  refine lv_aload_n hx hb dX0_cellOf_2 rfl (lv_at hl 0 rfl) ?_
  refine lv_iload_n hx hb dX0_cellOf_3 rfl (lv_at hl 1 rfl) ?_
  refine lv_iload_n hx hb dX0_cellOf_4 rfl (lv_at hl 2 rfl) ?_
  refine m_xcatch (own := "WakegroundLaw") (name := "java/lang/IndexOutOfBoundsException") (m_xV (As := [.int a0, .int a1]) (rest := [.int 0, .ref oa]) hcf (k_X1_cellOf_n1 l g A hlt ad (Mo g oa v) x a0 a1 h0) (cwV 2 hts (lw_V q817 q818 q819 q35 q820) rfl rfl rfl (by decide +kernel) ⟨Nat.le_of_ble_eq_true rfl, Nat.le_of_ble_eq_true rfl⟩) hE hA hM hS 0 0 cw_0 (ci := 0) rfl rfl hl.1 rfl (Nat.le_of_ble_eq_true rfl) dX0_cellOf_5 ⟨Nat.le_of_ble_eq_true rfl, Nat.le_of_ble_eq_true rfl⟩) hS hown [] ⟨0, 10, 13, 13⟩ [⟨0, 10, 17, 15⟩] (htb.trans rfl) (fun z hz => absurd hz List.not_mem_nil) rfl (by decide) (hts _ q374) (va_Nw.use rfl (hE.nw 3 rfl)) (fun q9 H locs hM hS => ?_)
  refine lv_astore (lv' := [(4, .ref q9), (0, .ref (ad 0 0)), (1, .int a0), (2, .int a1), (3, .ref oa)]) hx hb dX0_cellOf_13 hl (by decide) rfl (fun ls hl => ?_)
  refine lv_iconst (v := 1) hx hb dX0_cellOf_15 (by decide) ?_
  rw [← hQ]
  exact m_iret () hx hb hr rfl hlk hM hS (by first | rfl) (by first | decide | omega) (by first | decide | omega) dX0_cellOf_16

abbrev rm_X0_cellOf_n2 : Room := { frames := 8, cells := 1, slots := 6, locals := 125 }
theorem k_X0_cellOf_n2 (l : Launch) (g : GG) (A : Nat → Prop) (hlt : l.stackTraces = false) (ad : Nat → Nat → Nat) (x : St) (oa : Nat) (v : Int64) (k : Nat) (hk : k < 25) (a1 : Int32) (hw : inF a1 0 7 = 0) : Met l yX0_cellOf (wsW_ yX0_cellOf cX0_cellOf 5 (some .int) [(0, 10, 13, 13), (0, 10, 17, 15)]) rm_X0_cellOf_n2 (va_Pc [.ref (ad 0 0), .int (nI k), .int a1, .ref oa] (mPre g A (cwM g ad (Mo g oa v) x))) (pQi g A 2 (cwM g ad (Mo g oa v) x)) 1 6 A := by
  refine m_startW RX0 rfl (by decide) (Nat.le_of_ble_eq_true rfl) ?_
  intro p e s m args below meth c hcf hr hlk hnm hE hA htb H locs hM hS ls hl
  have hx := hcf.1
  have hb := hcf.2.1
  have hml := hcf.2.2.1
  have hown := hcf.2.2.2.1
  have hts := hcf.2.2.2.2
  have hl : lv_has ls 5 [(0, .ref (ad 0 0)), (1, .int (nI k)), (2, .int a1), (3, .ref oa)] := hl
  generalize hQ : MQ below (pQi g A 2 (cwM g ad (Mo g oa v) x)) args s 1 6 A = Q
  refine lv_aload_n hx hb dX0_cellOf_0 rfl (lv_at hl 3 rfl) ?_
  refine lv_iconst (v := 0) hx hb dX0_cellOf_1 (by decide) ?_
  refine lv_aload_n hx hb dX0_cellOf_2 rfl (lv_at hl 0 rfl) ?_
  refine lv_iload_n hx hb dX0_cellOf_3 rfl (lv_at hl 1 rfl) ?_
  refine lv_iload_n hx hb dX0_cellOf_4 rfl (lv_at hl 2 rfl) ?_
  refine m_xcatch (own := "WakegroundLaw") (name := "java/lang/IllegalArgumentException") (m_xV (As := [.int (nI k), .int a1]) (rest := [.int 0, .ref oa]) hcf (k_X1_cellOf_n2 l g A hlt ad (Mo g oa v) x k hk a1 hw) (cwV 2 hts (lw_V q817 q818 q819 q35 q820) rfl rfl rfl (by decide +kernel) ⟨Nat.le_of_ble_eq_true rfl, Nat.le_of_ble_eq_true rfl⟩) hE hA hM hS 0 0 cw_0 (ci := 0) rfl rfl hl.1 rfl (Nat.le_of_ble_eq_true rfl) dX0_cellOf_5 ⟨Nat.le_of_ble_eq_true rfl, Nat.le_of_ble_eq_true rfl⟩) hS hown [⟨0, 10, 13, 13⟩] ⟨0, 10, 17, 15⟩ [] (htb.trans rfl) (fun z hz => by rw [List.mem_singleton.mp hz]; exact Or.inr ⟨by decide, _, hts _ q374, hE.X.2.2.2.2.1⟩) rfl (by decide) (hts _ q407) (va_Nw.use rfl (hE.nw 4 rfl)) (fun q9 H locs hM hS => ?_)
  refine lv_astore (lv' := [(4, .ref q9), (0, .ref (ad 0 0)), (1, .int (nI k)), (2, .int a1), (3, .ref oa)]) hx hb dX0_cellOf_17 hl (by decide) rfl (fun ls hl => ?_)
  refine lv_iconst (v := 2) hx hb dX0_cellOf_19 (by decide) ?_
  rw [← hQ]
  exact m_iret () hx hb hr rfl hlk hM hS (by first | rfl) (by first | decide | omega) (by first | decide | omega) dX0_cellOf_20

abbrev rm_X0_layerOf_ok : Room := { frames := 4, cells := 0, slots := 0, locals := 90 }
theorem k_X0_layerOf_ok (l : Launch) (g : GG) (A : Nat → Prop) (ad : Nat → Nat → Nat) (x : St) (oa : Nat) (v : Int64) (k n : Nat) (hk : k < 25) (hn : n < 5) (w : Nat) (hw : w < 6) : Met l yX0_layerOf (wsW_ yX0_layerOf cX0_layerOf 6 (some .int) [(0, 12, 15, 13), (0, 12, 19, 15)]) rm_X0_layerOf_ok (va_Pc [.ref (ad 0 0), .int (nI k), .int (nI n), .int (nI w), .ref oa] (mPre g A (cwM g ad (Mo g oa v) x))) (pQi g A 0 (cwM g ad (Mo g oa ((claF x (5 * k + n) w).toInt64)) x)) 0 0 A := by
  refine m_startW RX0 rfl (by decide) (Nat.le_of_ble_eq_true rfl) ?_
  intro p e s m args below meth c hcf hr hlk hnm hE hA htb H locs hM hS ls hl
  have hx := hcf.1
  have hb := hcf.2.1
  have hml := hcf.2.2.1
  have hown := hcf.2.2.2.1
  have hts := hcf.2.2.2.2
  have hl : lv_has ls 6 [(0, .ref (ad 0 0)), (1, .int (nI k)), (2, .int (nI n)), (3, .int (nI w)), (4, .ref oa)] := hl
  generalize hQ : MQ below (pQi g A 0 (cwM g ad (Mo g oa ((claF x (5 * k + n) w).toInt64)) x)) args s 0 0 A = Q
  refine lv_aload hx hb dX0_layerOf_0 (lv_at hl 4 rfl) ?_
  refine lv_iconst (v := 0) hx hb dX0_layerOf_2 (by decide) ?_
  refine lv_aload_n hx hb dX0_layerOf_3 rfl (lv_at hl 0 rfl) ?_
  refine lv_iload_n hx hb dX0_layerOf_4 rfl (lv_at hl 1 rfl) ?_
  refine lv_iload_n hx hb dX0_layerOf_5 rfl (lv_at hl 2 rfl) ?_
  refine lv_iload_n hx hb dX0_layerOf_6 rfl (lv_at hl 3 rfl) ?_
  refine m_cpi (m_rV (As := [.int (nI k), .int (nI n), .int (nI w)]) (rest := [.int 0, .ref oa]) hcf (k_X1_layerOf_ok l g A ad (Mo g oa v) x k n hk hn w hw) (cwV 3 hts (lw_V q867 q868 q869 q35 q870) rfl rfl rfl (by decide +kernel) ⟨Nat.le_of_ble_eq_true rfl, Nat.le_of_ble_eq_true rfl⟩) hE hA hM hS 0 0 cw_0 (ci := 0) rfl rfl hl.1 rfl (Nat.le_of_ble_eq_true rfl) dX0_layerOf_7 ⟨Nat.le_of_ble_eq_true rfl, Nat.le_of_ble_eq_true rfl⟩) hS (fun H locs hM hS => ?_)
  refine lv_i2l hx hb dX0_layerOf_10 rfl ?_
  refine mo_st (w := (claF x (5 * k + n) w).toInt64) hcf hE hM hS dX0_layerOf_11 (fun H locs hM hS => ?_)
  refine lv_goto (tgt := 23) hx hb dX0_layerOf_12 (by decide) ?_
  refine lv_iconst (v := 0) hx hb dX0_layerOf_23 (by decide) ?_
  rw [← hQ]
  exact m_iret () hx hb hr rfl hlk hM hS (by first | rfl) (by first | decide | omega) (by first | decide | omega) dX0_layerOf_24

abbrev rm_X0_layerOf_n1 : Room := { frames := 10, cells := 1, slots := 6, locals := 170 }
theorem k_X0_layerOf_n1 (l : Launch) (g : GG) (A : Nat → Prop) (hlt : l.stackTraces = false) (ad : Nat → Nat → Nat) (x : St) (oa : Nat) (v : Int64) (a0 a1 a2 : Int32) (h0 : inF a0 0 24 = 0) : Met l yX0_layerOf (wsW_ yX0_layerOf cX0_layerOf 6 (some .int) [(0, 12, 15, 13), (0, 12, 19, 15)]) rm_X0_layerOf_n1 (va_Pc [.ref (ad 0 0), .int a0, .int a1, .int a2, .ref oa] (mPre g A (cwM g ad (Mo g oa v) x))) (pQi g A 1 (cwM g ad (Mo g oa v) x)) 1 6 A := by
  refine m_startW RX0 rfl (by decide) (Nat.le_of_ble_eq_true rfl) ?_
  intro p e s m args below meth c hcf hr hlk hnm hE hA htb H locs hM hS ls hl
  have hx := hcf.1
  have hb := hcf.2.1
  have hml := hcf.2.2.1
  have hown := hcf.2.2.2.1
  have hts := hcf.2.2.2.2
  have hl : lv_has ls 6 [(0, .ref (ad 0 0)), (1, .int a0), (2, .int a1), (3, .int a2), (4, .ref oa)] := hl
  generalize hQ : MQ below (pQi g A 1 (cwM g ad (Mo g oa v) x)) args s 1 6 A = Q
  refine lv_aload hx hb dX0_layerOf_0 (lv_at hl 4 rfl) ?_
  refine lv_iconst (v := 0) hx hb dX0_layerOf_2 (by decide) ?_
  refine lv_aload_n hx hb dX0_layerOf_3 rfl (lv_at hl 0 rfl) ?_
  refine lv_iload_n hx hb dX0_layerOf_4 rfl (lv_at hl 1 rfl) ?_
  refine lv_iload_n hx hb dX0_layerOf_5 rfl (lv_at hl 2 rfl) ?_
  refine lv_iload_n hx hb dX0_layerOf_6 rfl (lv_at hl 3 rfl) ?_
  refine m_xcatch (own := "WakegroundLaw") (name := "java/lang/IndexOutOfBoundsException") (m_xV (As := [.int a0, .int a1, .int a2]) (rest := [.int 0, .ref oa]) hcf (k_X1_layerOf_n1 l g A hlt ad (Mo g oa v) x a0 a1 a2 h0) (cwV 3 hts (lw_V q867 q868 q869 q35 q870) rfl rfl rfl (by decide +kernel) ⟨Nat.le_of_ble_eq_true rfl, Nat.le_of_ble_eq_true rfl⟩) hE hA hM hS 0 0 cw_0 (ci := 0) rfl rfl hl.1 rfl (Nat.le_of_ble_eq_true rfl) dX0_layerOf_7 ⟨Nat.le_of_ble_eq_true rfl, Nat.le_of_ble_eq_true rfl⟩) hS hown [] ⟨0, 12, 15, 13⟩ [⟨0, 12, 19, 15⟩] (htb.trans rfl) (fun z hz => absurd hz List.not_mem_nil) rfl (by decide) (hts _ q374) (va_Nw.use rfl (hE.nw 3 rfl)) (fun q9 H locs hM hS => ?_)
  refine lv_astore (lv' := [(5, .ref q9), (0, .ref (ad 0 0)), (1, .int a0), (2, .int a1), (3, .int a2), (4, .ref oa)]) hx hb dX0_layerOf_15 hl (by decide) rfl (fun ls hl => ?_)
  refine lv_iconst (v := 1) hx hb dX0_layerOf_17 (by decide) ?_
  rw [← hQ]
  exact m_iret () hx hb hr rfl hlk hM hS (by first | rfl) (by first | decide | omega) (by first | decide | omega) dX0_layerOf_18

abbrev rm_X0_layerOf_n2 : Room := { frames := 9, cells := 1, slots := 6, locals := 149 }
theorem k_X0_layerOf_n2 (l : Launch) (g : GG) (A : Nat → Prop) (hlt : l.stackTraces = false) (ad : Nat → Nat → Nat) (x : St) (oa : Nat) (v : Int64) (k : Nat) (hk : k < 25) (a1 a2 : Int32) (h1 : inF a1 0 4 = 0) : Met l yX0_layerOf (wsW_ yX0_layerOf cX0_layerOf 6 (some .int) [(0, 12, 15, 13), (0, 12, 19, 15)]) rm_X0_layerOf_n2 (va_Pc [.ref (ad 0 0), .int (nI k), .int a1, .int a2, .ref oa] (mPre g A (cwM g ad (Mo g oa v) x))) (pQi g A 1 (cwM g ad (Mo g oa v) x)) 1 6 A := by
  refine m_startW RX0 rfl (by decide) (Nat.le_of_ble_eq_true rfl) ?_
  intro p e s m args below meth c hcf hr hlk hnm hE hA htb H locs hM hS ls hl
  have hx := hcf.1
  have hb := hcf.2.1
  have hml := hcf.2.2.1
  have hown := hcf.2.2.2.1
  have hts := hcf.2.2.2.2
  have hl : lv_has ls 6 [(0, .ref (ad 0 0)), (1, .int (nI k)), (2, .int a1), (3, .int a2), (4, .ref oa)] := hl
  generalize hQ : MQ below (pQi g A 1 (cwM g ad (Mo g oa v) x)) args s 1 6 A = Q
  refine lv_aload hx hb dX0_layerOf_0 (lv_at hl 4 rfl) ?_
  refine lv_iconst (v := 0) hx hb dX0_layerOf_2 (by decide) ?_
  refine lv_aload_n hx hb dX0_layerOf_3 rfl (lv_at hl 0 rfl) ?_
  refine lv_iload_n hx hb dX0_layerOf_4 rfl (lv_at hl 1 rfl) ?_
  refine lv_iload_n hx hb dX0_layerOf_5 rfl (lv_at hl 2 rfl) ?_
  refine lv_iload_n hx hb dX0_layerOf_6 rfl (lv_at hl 3 rfl) ?_
  refine m_xcatch (own := "WakegroundLaw") (name := "java/lang/IndexOutOfBoundsException") (m_xV (As := [.int (nI k), .int a1, .int a2]) (rest := [.int 0, .ref oa]) hcf (k_X1_layerOf_n2 l g A hlt ad (Mo g oa v) x k hk a1 a2 h1) (cwV 3 hts (lw_V q867 q868 q869 q35 q870) rfl rfl rfl (by decide +kernel) ⟨Nat.le_of_ble_eq_true rfl, Nat.le_of_ble_eq_true rfl⟩) hE hA hM hS 0 0 cw_0 (ci := 0) rfl rfl hl.1 rfl (Nat.le_of_ble_eq_true rfl) dX0_layerOf_7 ⟨Nat.le_of_ble_eq_true rfl, Nat.le_of_ble_eq_true rfl⟩) hS hown [] ⟨0, 12, 15, 13⟩ [⟨0, 12, 19, 15⟩] (htb.trans rfl) (fun z hz => absurd hz List.not_mem_nil) rfl (by decide) (hts _ q374) (va_Nw.use rfl (hE.nw 3 rfl)) (fun q9 H locs hM hS => ?_)
  refine lv_astore (lv' := [(5, .ref q9), (0, .ref (ad 0 0)), (1, .int (nI k)), (2, .int a1), (3, .int a2), (4, .ref oa)]) hx hb dX0_layerOf_15 hl (by decide) rfl (fun ls hl => ?_)
  refine lv_iconst (v := 1) hx hb dX0_layerOf_17 (by decide) ?_
  rw [← hQ]
  exact m_iret () hx hb hr rfl hlk hM hS (by first | rfl) (by first | decide | omega) (by first | decide | omega) dX0_layerOf_18

abbrev rm_X0_layerOf_n3 : Room := { frames := 8, cells := 1, slots := 6, locals := 126 }
theorem k_X0_layerOf_n3 (l : Launch) (g : GG) (A : Nat → Prop) (hlt : l.stackTraces = false) (ad : Nat → Nat → Nat) (x : St) (oa : Nat) (v : Int64) (k n : Nat) (hk : k < 25) (hn : n < 5) (a2 : Int32) (hw : inF a2 0 5 = 0) : Met l yX0_layerOf (wsW_ yX0_layerOf cX0_layerOf 6 (some .int) [(0, 12, 15, 13), (0, 12, 19, 15)]) rm_X0_layerOf_n3 (va_Pc [.ref (ad 0 0), .int (nI k), .int (nI n), .int a2, .ref oa] (mPre g A (cwM g ad (Mo g oa v) x))) (pQi g A 2 (cwM g ad (Mo g oa v) x)) 1 6 A := by
  refine m_startW RX0 rfl (by decide) (Nat.le_of_ble_eq_true rfl) ?_
  intro p e s m args below meth c hcf hr hlk hnm hE hA htb H locs hM hS ls hl
  have hx := hcf.1
  have hb := hcf.2.1
  have hml := hcf.2.2.1
  have hown := hcf.2.2.2.1
  have hts := hcf.2.2.2.2
  have hl : lv_has ls 6 [(0, .ref (ad 0 0)), (1, .int (nI k)), (2, .int (nI n)), (3, .int a2), (4, .ref oa)] := hl
  generalize hQ : MQ below (pQi g A 2 (cwM g ad (Mo g oa v) x)) args s 1 6 A = Q
  refine lv_aload hx hb dX0_layerOf_0 (lv_at hl 4 rfl) ?_
  refine lv_iconst (v := 0) hx hb dX0_layerOf_2 (by decide) ?_
  refine lv_aload_n hx hb dX0_layerOf_3 rfl (lv_at hl 0 rfl) ?_
  refine lv_iload_n hx hb dX0_layerOf_4 rfl (lv_at hl 1 rfl) ?_
  refine lv_iload_n hx hb dX0_layerOf_5 rfl (lv_at hl 2 rfl) ?_
  refine lv_iload_n hx hb dX0_layerOf_6 rfl (lv_at hl 3 rfl) ?_
  refine m_xcatch (own := "WakegroundLaw") (name := "java/lang/IllegalArgumentException") (m_xV (As := [.int (nI k), .int (nI n), .int a2]) (rest := [.int 0, .ref oa]) hcf (k_X1_layerOf_n3 l g A hlt ad (Mo g oa v) x k n hk hn a2 hw) (cwV 3 hts (lw_V q867 q868 q869 q35 q870) rfl rfl rfl (by decide +kernel) ⟨Nat.le_of_ble_eq_true rfl, Nat.le_of_ble_eq_true rfl⟩) hE hA hM hS 0 0 cw_0 (ci := 0) rfl rfl hl.1 rfl (Nat.le_of_ble_eq_true rfl) dX0_layerOf_7 ⟨Nat.le_of_ble_eq_true rfl, Nat.le_of_ble_eq_true rfl⟩) hS hown [⟨0, 12, 15, 13⟩] ⟨0, 12, 19, 15⟩ [] (htb.trans rfl) (fun z hz => by rw [List.mem_singleton.mp hz]; exact Or.inr ⟨by decide, _, hts _ q374, hE.X.2.2.2.2.1⟩) rfl (by decide) (hts _ q407) (va_Nw.use rfl (hE.nw 4 rfl)) (fun q9 H locs hM hS => ?_)
  refine lv_astore (lv' := [(5, .ref q9), (0, .ref (ad 0 0)), (1, .int (nI k)), (2, .int (nI n)), (3, .int a2), (4, .ref oa)]) hx hb dX0_layerOf_19 hl (by decide) rfl (fun ls hl => ?_)
  refine lv_iconst (v := 2) hx hb dX0_layerOf_21 (by decide) ?_
  rw [← hQ]
  exact m_iret () hx hb hr rfl hlk hM hS (by first | rfl) (by first | decide | omega) (by first | decide | omega) dX0_layerOf_22

abbrev rm_X0_neighbour_ok : Room := { frames := 5, cells := 1, slots := 2, locals := 108 }
theorem k_X0_neighbour_ok (l : Launch) (g : GG) (A : Nat → Prop) (ad : Nat → Nat → Nat) (x : St) (oa : Nat) (v : Int64) (k : Nat) (hk : k < 25) (a1 : Int32) (hw : (if a1 < 0 then 0 else 1 : Int32) = 1) : Met l yX0_neighbour (wsW_ yX0_neighbour cX0_neighbour 5 (some .int) [(0, 10, 13, 13)]) rm_X0_neighbour_ok (va_Pc [.ref (ad 0 0), .int (nI k), .int a1, .ref oa] (mPre g A (cwM g ad (Mo g oa v) x))) (pQi g A 0 (cwM g ad (Mo g oa ((cneF k a1).toInt64)) x)) 1 2 A := by
  refine m_startW RX0 rfl (by decide) (Nat.le_of_ble_eq_true rfl) ?_
  intro p e s m args below meth c hcf hr hlk hnm hE hA htb H locs hM hS ls hl
  have hx := hcf.1
  have hb := hcf.2.1
  have hml := hcf.2.2.1
  have hown := hcf.2.2.2.1
  have hts := hcf.2.2.2.2
  have hl : lv_has ls 5 [(0, .ref (ad 0 0)), (1, .int (nI k)), (2, .int a1), (3, .ref oa)] := hl
  generalize hQ : MQ below (pQi g A 0 (cwM g ad (Mo g oa ((cneF k a1).toInt64)) x)) args s 1 2 A = Q
  refine lv_aload_n hx hb dX0_neighbour_0 rfl (lv_at hl 3 rfl) ?_
  refine lv_iconst (v := 0) hx hb dX0_neighbour_1 (by decide) ?_
  refine lv_aload_n hx hb dX0_neighbour_2 rfl (lv_at hl 0 rfl) ?_
  refine lv_iload_n hx hb dX0_neighbour_3 rfl (lv_at hl 1 rfl) ?_
  refine lv_iload_n hx hb dX0_neighbour_4 rfl (lv_at hl 2 rfl) ?_
  refine m_cpi (m_rV (As := [.int (nI k), .int a1]) (rest := [.int 0, .ref oa]) hcf (k_X1_neighbour_ok l g A ad (Mo g oa v) x k hk a1 hw (Mo_n _ _ _ (by decide))) (cwV 2 hts (lw_V q876 q877 q878 q35 q879) rfl rfl rfl (by decide +kernel) ⟨Nat.le_of_ble_eq_true rfl, Nat.le_of_ble_eq_true rfl⟩) hE hA hM hS 0 0 cw_0 (ci := 0) rfl rfl hl.1 rfl (Nat.le_of_ble_eq_true rfl) dX0_neighbour_5 ⟨Nat.le_of_ble_eq_true rfl, Nat.le_of_ble_eq_true rfl⟩) hS (fun H locs hM hS => ?_)
  refine lv_i2l hx hb dX0_neighbour_8 rfl ?_
  refine mo_st (w := (cneF k a1).toInt64) hcf hE hM hS dX0_neighbour_9 (fun H locs hM hS => ?_)
  refine lv_goto (tgt := 17) hx hb dX0_neighbour_10 (by decide) ?_
  refine lv_iconst (v := 0) hx hb dX0_neighbour_17 (by decide) ?_
  rw [← hQ]
  exact m_iret () hx hb hr rfl hlk hM hS (by first | rfl) (by first | decide | omega) (by first | decide | omega) dX0_neighbour_18

abbrev rm_X0_neighbour_n1 : Room := { frames := 9, cells := 1, slots := 6, locals := 148 }
theorem k_X0_neighbour_n1 (l : Launch) (g : GG) (A : Nat → Prop) (hlt : l.stackTraces = false) (ad : Nat → Nat → Nat) (x : St) (oa : Nat) (v : Int64) (a0 a1 : Int32) (h0 : inF a0 0 24 = 0) : Met l yX0_neighbour (wsW_ yX0_neighbour cX0_neighbour 5 (some .int) [(0, 10, 13, 13)]) rm_X0_neighbour_n1 (va_Pc [.ref (ad 0 0), .int a0, .int a1, .ref oa] (mPre g A (cwM g ad (Mo g oa v) x))) (pQi g A 1 (cwM g ad (Mo g oa v) x)) 1 6 A := by
  refine m_startW RX0 rfl (by decide) (Nat.le_of_ble_eq_true rfl) ?_
  intro p e s m args below meth c hcf hr hlk hnm hE hA htb H locs hM hS ls hl
  have hx := hcf.1
  have hb := hcf.2.1
  have hml := hcf.2.2.1
  have hown := hcf.2.2.2.1
  have hts := hcf.2.2.2.2
  have hl : lv_has ls 5 [(0, .ref (ad 0 0)), (1, .int a0), (2, .int a1), (3, .ref oa)] := hl
  generalize hQ : MQ below (pQi g A 1 (cwM g ad (Mo g oa v) x)) args s 1 6 A = Q
  refine lv_aload_n hx hb dX0_neighbour_0 rfl (lv_at hl 3 rfl) ?_
  refine lv_iconst (v := 0) hx hb dX0_neighbour_1 (by decide) ?_
  refine lv_aload_n hx hb dX0_neighbour_2 rfl (lv_at hl 0 rfl) ?_
  refine lv_iload_n hx hb dX0_neighbour_3 rfl (lv_at hl 1 rfl) ?_
  refine lv_iload_n hx hb dX0_neighbour_4 rfl (lv_at hl 2 rfl) ?_
  refine m_xcatch (own := "WakegroundLaw") (name := "java/lang/IndexOutOfBoundsException") (m_xV (As := [.int a0, .int a1]) (rest := [.int 0, .ref oa]) hcf (k_X1_neighbour_n1 l g A hlt ad (Mo g oa v) x a0 a1 h0) (cwV 2 hts (lw_V q876 q877 q878 q35 q879) rfl rfl rfl (by decide +kernel) ⟨Nat.le_of_ble_eq_true rfl, Nat.le_of_ble_eq_true rfl⟩) hE hA hM hS 0 0 cw_0 (ci := 0) rfl rfl hl.1 rfl (Nat.le_of_ble_eq_true rfl) dX0_neighbour_5 ⟨Nat.le_of_ble_eq_true rfl, Nat.le_of_ble_eq_true rfl⟩) hS hown [] ⟨0, 10, 13, 13⟩ [] (htb.trans rfl) (fun z hz => absurd hz List.not_mem_nil) rfl (by decide) (hts _ q374) (va_Nw.use rfl (hE.nw 3 rfl)) (fun q9 H locs hM hS => ?_)
  refine lv_astore (lv' := [(4, .ref q9), (0, .ref (ad 0 0)), (1, .int a0), (2, .int a1), (3, .ref oa)]) hx hb dX0_neighbour_13 hl (by decide) rfl (fun ls hl => ?_)
  refine lv_iconst (v := 1) hx hb dX0_neighbour_15 (by decide) ?_
  rw [← hQ]
  exact m_iret () hx hb hr rfl hlk hM hS (by first | rfl) (by first | decide | omega) (by first | decide | omega) dX0_neighbour_16

abbrev rm_X0_neighbour_n2 : Room := { frames := 8, cells := 1, slots := 6, locals := 127 }
theorem k_X0_neighbour_n2 (l : Launch) (g : GG) (A : Nat → Prop) (hlt : l.stackTraces = false) (ad : Nat → Nat → Nat) (x : St) (oa : Nat) (v : Int64) (k : Nat) (hk : k < 25) (a1 : Int32) (hw : (if a1 < 0 then 0 else 1 : Int32) = 0) : Met l yX0_neighbour (wsW_ yX0_neighbour cX0_neighbour 5 (some .int) [(0, 10, 13, 13)]) rm_X0_neighbour_n2 (va_Pc [.ref (ad 0 0), .int (nI k), .int a1, .ref oa] (mPre g A (cwM g ad (Mo g oa v) x))) (pQi g A 1 (cwM g ad (Mo g oa v) x)) 1 6 A := by
  refine m_startW RX0 rfl (by decide) (Nat.le_of_ble_eq_true rfl) ?_
  intro p e s m args below meth c hcf hr hlk hnm hE hA htb H locs hM hS ls hl
  have hx := hcf.1
  have hb := hcf.2.1
  have hml := hcf.2.2.1
  have hown := hcf.2.2.2.1
  have hts := hcf.2.2.2.2
  have hl : lv_has ls 5 [(0, .ref (ad 0 0)), (1, .int (nI k)), (2, .int a1), (3, .ref oa)] := hl
  generalize hQ : MQ below (pQi g A 1 (cwM g ad (Mo g oa v) x)) args s 1 6 A = Q
  refine lv_aload_n hx hb dX0_neighbour_0 rfl (lv_at hl 3 rfl) ?_
  refine lv_iconst (v := 0) hx hb dX0_neighbour_1 (by decide) ?_
  refine lv_aload_n hx hb dX0_neighbour_2 rfl (lv_at hl 0 rfl) ?_
  refine lv_iload_n hx hb dX0_neighbour_3 rfl (lv_at hl 1 rfl) ?_
  refine lv_iload_n hx hb dX0_neighbour_4 rfl (lv_at hl 2 rfl) ?_
  refine m_xcatch (own := "WakegroundLaw") (name := "java/lang/IndexOutOfBoundsException") (m_xV (As := [.int (nI k), .int a1]) (rest := [.int 0, .ref oa]) hcf (k_X1_neighbour_n2 l g A hlt ad (Mo g oa v) x k hk a1 hw) (cwV 2 hts (lw_V q876 q877 q878 q35 q879) rfl rfl rfl (by decide +kernel) ⟨Nat.le_of_ble_eq_true rfl, Nat.le_of_ble_eq_true rfl⟩) hE hA hM hS 0 0 cw_0 (ci := 0) rfl rfl hl.1 rfl (Nat.le_of_ble_eq_true rfl) dX0_neighbour_5 ⟨Nat.le_of_ble_eq_true rfl, Nat.le_of_ble_eq_true rfl⟩) hS hown [] ⟨0, 10, 13, 13⟩ [] (htb.trans rfl) (fun z hz => absurd hz List.not_mem_nil) rfl (by decide) (hts _ q374) (va_Nw.use rfl (hE.nw 3 rfl)) (fun q9 H locs hM hS => ?_)
  refine lv_astore (lv' := [(4, .ref q9), (0, .ref (ad 0 0)), (1, .int (nI k)), (2, .int a1), (3, .ref oa)]) hx hb dX0_neighbour_13 hl (by decide) rfl (fun ls hl => ?_)
  refine lv_iconst (v := 1) hx hb dX0_neighbour_15 (by decide) ?_
  rw [← hQ]
  exact m_iret () hx hb hr rfl hlk hM hS (by first | rfl) (by first | decide | omega) (by first | decide | omega) dX0_neighbour_16

abbrev rm_X0_houseOf_ok : Room := { frames := 5, cells := 0, slots := 0, locals := 115 }
theorem k_X0_houseOf_ok (l : Launch) (g : GG) (A : Nat → Prop) (ad : Nat → Nat → Nat) (x : St) (oa : Nat) (v : Int64) (hls : lsOK x) (hok : okM x) (h : Nat) (hh : h < nt x 13 0) (w : Nat) (hw : w < 5) : Met l yX0_houseOf (wsW_ yX0_houseOf cX0_houseOf 5 (some .int) [(0, 10, 13, 13), (0, 10, 17, 15)]) rm_X0_houseOf_ok (va_Pc [.ref (ad 0 0), .int (nI h), .int (nI w), .ref oa] (mPre g A (cwM g ad (Mo g oa v) x))) (pQi g A 0 (cwM g ad (Mo g oa ((chfF x h w).toInt64)) x)) 0 0 A := by
  refine m_startW RX0 rfl (by decide) (Nat.le_of_ble_eq_true rfl) ?_
  intro p e s m args below meth c hcf hr hlk hnm hE hA htb H locs hM hS ls hl
  have hx := hcf.1
  have hb := hcf.2.1
  have hml := hcf.2.2.1
  have hown := hcf.2.2.2.1
  have hts := hcf.2.2.2.2
  have hl : lv_has ls 5 [(0, .ref (ad 0 0)), (1, .int (nI h)), (2, .int (nI w)), (3, .ref oa)] := hl
  generalize hQ : MQ below (pQi g A 0 (cwM g ad (Mo g oa ((chfF x h w).toInt64)) x)) args s 0 0 A = Q
  refine lv_aload_n hx hb dX0_houseOf_0 rfl (lv_at hl 3 rfl) ?_
  refine lv_iconst (v := 0) hx hb dX0_houseOf_1 (by decide) ?_
  refine lv_aload_n hx hb dX0_houseOf_2 rfl (lv_at hl 0 rfl) ?_
  refine lv_iload_n hx hb dX0_houseOf_3 rfl (lv_at hl 1 rfl) ?_
  refine lv_iload_n hx hb dX0_houseOf_4 rfl (lv_at hl 2 rfl) ?_
  refine m_cpi (m_rV (As := [.int (nI h), .int (nI w)]) (rest := [.int 0, .ref oa]) hcf (k_X1_houseOf_ok l g A ad (Mo g oa v) x hls hok h hh w hw) (cwV 2 hts (lw_V q883 q884 q885 q35 q886) rfl rfl rfl (by decide +kernel) ⟨Nat.le_of_ble_eq_true rfl, Nat.le_of_ble_eq_true rfl⟩) hE hA hM hS 0 0 cw_0 (ci := 0) rfl rfl hl.1 rfl (Nat.le_of_ble_eq_true rfl) dX0_houseOf_5 ⟨Nat.le_of_ble_eq_true rfl, Nat.le_of_ble_eq_true rfl⟩) hS (fun H locs hM hS => ?_)
  refine lv_i2l hx hb dX0_houseOf_8 rfl ?_
  refine mo_st (w := (chfF x h w).toInt64) hcf hE hM hS dX0_houseOf_9 (fun H locs hM hS => ?_)
  refine lv_goto (tgt := 21) hx hb dX0_houseOf_10 (by decide) ?_
  refine lv_iconst (v := 0) hx hb dX0_houseOf_21 (by decide) ?_
  rw [← hQ]
  exact m_iret () hx hb hr rfl hlk hM hS (by first | rfl) (by first | decide | omega) (by first | decide | omega) dX0_houseOf_22

abbrev rm_X0_houseOf_n1 : Room := { frames := 9, cells := 1, slots := 6, locals := 146 }
theorem k_X0_houseOf_n1 (l : Launch) (g : GG) (A : Nat → Prop) (hlt : l.stackTraces = false) (ad : Nat → Nat → Nat) (x : St) (oa : Nat) (v : Int64) (hls : lsOK x) (a0 a1 : Int32) (h0 : inF a0 0 (nI (nt x 13 0) - 1) = 0) : Met l yX0_houseOf (wsW_ yX0_houseOf cX0_houseOf 5 (some .int) [(0, 10, 13, 13), (0, 10, 17, 15)]) rm_X0_houseOf_n1 (va_Pc [.ref (ad 0 0), .int a0, .int a1, .ref oa] (mPre g A (cwM g ad (Mo g oa v) x))) (pQi g A 1 (cwM g ad (Mo g oa v) x)) 1 6 A := by
  refine m_startW RX0 rfl (by decide) (Nat.le_of_ble_eq_true rfl) ?_
  intro p e s m args below meth c hcf hr hlk hnm hE hA htb H locs hM hS ls hl
  have hx := hcf.1
  have hb := hcf.2.1
  have hml := hcf.2.2.1
  have hown := hcf.2.2.2.1
  have hts := hcf.2.2.2.2
  have hl : lv_has ls 5 [(0, .ref (ad 0 0)), (1, .int a0), (2, .int a1), (3, .ref oa)] := hl
  generalize hQ : MQ below (pQi g A 1 (cwM g ad (Mo g oa v) x)) args s 1 6 A = Q
  refine lv_aload_n hx hb dX0_houseOf_0 rfl (lv_at hl 3 rfl) ?_
  refine lv_iconst (v := 0) hx hb dX0_houseOf_1 (by decide) ?_
  refine lv_aload_n hx hb dX0_houseOf_2 rfl (lv_at hl 0 rfl) ?_
  refine lv_iload_n hx hb dX0_houseOf_3 rfl (lv_at hl 1 rfl) ?_
  refine lv_iload_n hx hb dX0_houseOf_4 rfl (lv_at hl 2 rfl) ?_
  refine m_xcatch (own := "WakegroundLaw") (name := "java/lang/IndexOutOfBoundsException") (m_xV (As := [.int a0, .int a1]) (rest := [.int 0, .ref oa]) hcf (k_X1_houseOf_n1 l g A hlt ad (Mo g oa v) x hls a0 a1 h0) (cwV 2 hts (lw_V q883 q884 q885 q35 q886) rfl rfl rfl (by decide +kernel) ⟨Nat.le_of_ble_eq_true rfl, Nat.le_of_ble_eq_true rfl⟩) hE hA hM hS 0 0 cw_0 (ci := 0) rfl rfl hl.1 rfl (Nat.le_of_ble_eq_true rfl) dX0_houseOf_5 ⟨Nat.le_of_ble_eq_true rfl, Nat.le_of_ble_eq_true rfl⟩) hS hown [] ⟨0, 10, 13, 13⟩ [⟨0, 10, 17, 15⟩] (htb.trans rfl) (fun z hz => absurd hz List.not_mem_nil) rfl (by decide) (hts _ q374) (va_Nw.use rfl (hE.nw 3 rfl)) (fun q9 H locs hM hS => ?_)
  refine lv_astore (lv' := [(4, .ref q9), (0, .ref (ad 0 0)), (1, .int a0), (2, .int a1), (3, .ref oa)]) hx hb dX0_houseOf_13 hl (by decide) rfl (fun ls hl => ?_)
  refine lv_iconst (v := 1) hx hb dX0_houseOf_15 (by decide) ?_
  rw [← hQ]
  exact m_iret () hx hb hr rfl hlk hM hS (by first | rfl) (by first | decide | omega) (by first | decide | omega) dX0_houseOf_16

abbrev rm_X0_houseOf_n2 : Room := { frames := 8, cells := 1, slots := 6, locals := 125 }
theorem k_X0_houseOf_n2 (l : Launch) (g : GG) (A : Nat → Prop) (hlt : l.stackTraces = false) (ad : Nat → Nat → Nat) (x : St) (oa : Nat) (v : Int64) (hls : lsOK x) (h : Nat) (hh : h < nt x 13 0) (a1 : Int32) (hw : inF a1 0 4 = 0) : Met l yX0_houseOf (wsW_ yX0_houseOf cX0_houseOf 5 (some .int) [(0, 10, 13, 13), (0, 10, 17, 15)]) rm_X0_houseOf_n2 (va_Pc [.ref (ad 0 0), .int (nI h), .int a1, .ref oa] (mPre g A (cwM g ad (Mo g oa v) x))) (pQi g A 2 (cwM g ad (Mo g oa v) x)) 1 6 A := by
  refine m_startW RX0 rfl (by decide) (Nat.le_of_ble_eq_true rfl) ?_
  intro p e s m args below meth c hcf hr hlk hnm hE hA htb H locs hM hS ls hl
  have hx := hcf.1
  have hb := hcf.2.1
  have hml := hcf.2.2.1
  have hown := hcf.2.2.2.1
  have hts := hcf.2.2.2.2
  have hl : lv_has ls 5 [(0, .ref (ad 0 0)), (1, .int (nI h)), (2, .int a1), (3, .ref oa)] := hl
  generalize hQ : MQ below (pQi g A 2 (cwM g ad (Mo g oa v) x)) args s 1 6 A = Q
  refine lv_aload_n hx hb dX0_houseOf_0 rfl (lv_at hl 3 rfl) ?_
  refine lv_iconst (v := 0) hx hb dX0_houseOf_1 (by decide) ?_
  refine lv_aload_n hx hb dX0_houseOf_2 rfl (lv_at hl 0 rfl) ?_
  refine lv_iload_n hx hb dX0_houseOf_3 rfl (lv_at hl 1 rfl) ?_
  refine lv_iload_n hx hb dX0_houseOf_4 rfl (lv_at hl 2 rfl) ?_
  refine m_xcatch (own := "WakegroundLaw") (name := "java/lang/IllegalArgumentException") (m_xV (As := [.int (nI h), .int a1]) (rest := [.int 0, .ref oa]) hcf (k_X1_houseOf_n2 l g A hlt ad (Mo g oa v) x hls h hh a1 hw) (cwV 2 hts (lw_V q883 q884 q885 q35 q886) rfl rfl rfl (by decide +kernel) ⟨Nat.le_of_ble_eq_true rfl, Nat.le_of_ble_eq_true rfl⟩) hE hA hM hS 0 0 cw_0 (ci := 0) rfl rfl hl.1 rfl (Nat.le_of_ble_eq_true rfl) dX0_houseOf_5 ⟨Nat.le_of_ble_eq_true rfl, Nat.le_of_ble_eq_true rfl⟩) hS hown [⟨0, 10, 13, 13⟩] ⟨0, 10, 17, 15⟩ [] (htb.trans rfl) (fun z hz => by rw [List.mem_singleton.mp hz]; exact Or.inr ⟨by decide, _, hts _ q374, hE.X.2.2.2.2.1⟩) rfl (by decide) (hts _ q407) (va_Nw.use rfl (hE.nw 4 rfl)) (fun q9 H locs hM hS => ?_)
  refine lv_astore (lv' := [(4, .ref q9), (0, .ref (ad 0 0)), (1, .int (nI h)), (2, .int a1), (3, .ref oa)]) hx hb dX0_houseOf_17 hl (by decide) rfl (fun ls hl => ?_)
  refine lv_iconst (v := 2) hx hb dX0_houseOf_19 (by decide) ?_
  rw [← hQ]
  exact m_iret () hx hb hr rfl hlk hM hS (by first | rfl) (by first | decide | omega) (by first | decide | omega) dX0_houseOf_20

abbrev rm_X0_reading_ok : Room := { frames := 4, cells := 0, slots := 0, locals := 88 }
theorem k_X0_reading_ok (l : Launch) (g : GG) (A : Nat → Prop) (ad : Nat → Nat → Nat) (x : St) (oa : Nat) (v : Int64) (hls : lsOK x) (b : Nat) (hbb : b < nt x 19 0) (mo n : Nat) (hmo : mo < 600) (hn : n < 5) (hw : chasF x b (nI mo) (x.1 1 0) = 1) : Met l yX0_reading (wsW_ yX0_reading cX0_reading 6 (some .int) [(0, 12, 15, 13)]) rm_X0_reading_ok (va_Pc [.ref (ad 0 0), .int (nI b), .int (nI mo), .int (nI n), .ref oa] (mPre g A (cwM g ad (Mo g oa v) x))) (pQi g A 0 (cwM g ad (Mo g oa ((x.1 23 (3000 * b + (5 * mo + n))).toInt64)) x)) 0 0 A := by
  refine m_startW RX0 rfl (by decide) (Nat.le_of_ble_eq_true rfl) ?_
  intro p e s m args below meth c hcf hr hlk hnm hE hA htb H locs hM hS ls hl
  have hx := hcf.1
  have hb := hcf.2.1
  have hml := hcf.2.2.1
  have hown := hcf.2.2.2.1
  have hts := hcf.2.2.2.2
  have hl : lv_has ls 6 [(0, .ref (ad 0 0)), (1, .int (nI b)), (2, .int (nI mo)), (3, .int (nI n)), (4, .ref oa)] := hl
  generalize hQ : MQ below (pQi g A 0 (cwM g ad (Mo g oa ((x.1 23 (3000 * b + (5 * mo + n))).toInt64)) x)) args s 0 0 A = Q
  refine lv_aload hx hb dX0_reading_0 (lv_at hl 4 rfl) ?_
  refine lv_iconst (v := 0) hx hb dX0_reading_2 (by decide) ?_
  refine lv_aload_n hx hb dX0_reading_3 rfl (lv_at hl 0 rfl) ?_
  refine lv_iload_n hx hb dX0_reading_4 rfl (lv_at hl 1 rfl) ?_
  refine lv_iload_n hx hb dX0_reading_5 rfl (lv_at hl 2 rfl) ?_
  refine lv_iload_n hx hb dX0_reading_6 rfl (lv_at hl 3 rfl) ?_
  refine m_cpi (m_rV (As := [.int (nI b), .int (nI mo), .int (nI n)]) (rest := [.int 0, .ref oa]) hcf (k_X1_reading_ok l g A ad (Mo g oa v) x hls b hbb mo n hmo hn hw) (cwV 3 hts (lw_V q891 q892 q893 q35 q894) rfl rfl rfl (by decide +kernel) ⟨Nat.le_of_ble_eq_true rfl, Nat.le_of_ble_eq_true rfl⟩) hE hA hM hS 0 0 cw_0 (ci := 0) rfl rfl hl.1 rfl (Nat.le_of_ble_eq_true rfl) dX0_reading_7 ⟨Nat.le_of_ble_eq_true rfl, Nat.le_of_ble_eq_true rfl⟩) hS (fun H locs hM hS => ?_)
  refine lv_i2l hx hb dX0_reading_10 rfl ?_
  refine mo_st (w := (x.1 23 (3000 * b + (5 * mo + n))).toInt64) hcf hE hM hS dX0_reading_11 (fun H locs hM hS => ?_)
  refine lv_goto (tgt := 19) hx hb dX0_reading_12 (by decide) ?_
  refine lv_iconst (v := 0) hx hb dX0_reading_19 (by decide) ?_
  rw [← hQ]
  exact m_iret () hx hb hr rfl hlk hM hS (by first | rfl) (by first | decide | omega) (by first | decide | omega) dX0_reading_20

abbrev rm_X0_reading_n1 : Room := { frames := 8, cells := 1, slots := 6, locals := 126 }
theorem k_X0_reading_n1 (l : Launch) (g : GG) (A : Nat → Prop) (hlt : l.stackTraces = false) (ad : Nat → Nat → Nat) (x : St) (oa : Nat) (v : Int64) (hls : lsOK x) (a0 a1 a2 : Int32) (h0 : inF a0 0 (nI (nt x 19 0) - 1) = 0) : Met l yX0_reading (wsW_ yX0_reading cX0_reading 6 (some .int) [(0, 12, 15, 13)]) rm_X0_reading_n1 (va_Pc [.ref (ad 0 0), .int a0, .int a1, .int a2, .ref oa] (mPre g A (cwM g ad (Mo g oa v) x))) (pQi g A 1 (cwM g ad (Mo g oa v) x)) 1 6 A := by
  refine m_startW RX0 rfl (by decide) (Nat.le_of_ble_eq_true rfl) ?_
  intro p e s m args below meth c hcf hr hlk hnm hE hA htb H locs hM hS ls hl
  have hx := hcf.1
  have hb := hcf.2.1
  have hml := hcf.2.2.1
  have hown := hcf.2.2.2.1
  have hts := hcf.2.2.2.2
  have hl : lv_has ls 6 [(0, .ref (ad 0 0)), (1, .int a0), (2, .int a1), (3, .int a2), (4, .ref oa)] := hl
  generalize hQ : MQ below (pQi g A 1 (cwM g ad (Mo g oa v) x)) args s 1 6 A = Q
  refine lv_aload hx hb dX0_reading_0 (lv_at hl 4 rfl) ?_
  refine lv_iconst (v := 0) hx hb dX0_reading_2 (by decide) ?_
  refine lv_aload_n hx hb dX0_reading_3 rfl (lv_at hl 0 rfl) ?_
  refine lv_iload_n hx hb dX0_reading_4 rfl (lv_at hl 1 rfl) ?_
  refine lv_iload_n hx hb dX0_reading_5 rfl (lv_at hl 2 rfl) ?_
  refine lv_iload_n hx hb dX0_reading_6 rfl (lv_at hl 3 rfl) ?_
  refine m_xcatch (own := "WakegroundLaw") (name := "java/lang/IndexOutOfBoundsException") (m_xV (As := [.int a0, .int a1, .int a2]) (rest := [.int 0, .ref oa]) hcf (k_X1_reading_n1 l g A hlt ad (Mo g oa v) x hls a0 a1 a2 h0) (cwV 3 hts (lw_V q891 q892 q893 q35 q894) rfl rfl rfl (by decide +kernel) ⟨Nat.le_of_ble_eq_true rfl, Nat.le_of_ble_eq_true rfl⟩) hE hA hM hS 0 0 cw_0 (ci := 0) rfl rfl hl.1 rfl (Nat.le_of_ble_eq_true rfl) dX0_reading_7 ⟨Nat.le_of_ble_eq_true rfl, Nat.le_of_ble_eq_true rfl⟩) hS hown [] ⟨0, 12, 15, 13⟩ [] (htb.trans rfl) (fun z hz => absurd hz List.not_mem_nil) rfl (by decide) (hts _ q374) (va_Nw.use rfl (hE.nw 3 rfl)) (fun q9 H locs hM hS => ?_)
  refine lv_astore (lv' := [(5, .ref q9), (0, .ref (ad 0 0)), (1, .int a0), (2, .int a1), (3, .int a2), (4, .ref oa)]) hx hb dX0_reading_15 hl (by decide) rfl (fun ls hl => ?_)
  refine lv_iconst (v := 1) hx hb dX0_reading_17 (by decide) ?_
  rw [← hQ]
  exact m_iret () hx hb hr rfl hlk hM hS (by first | rfl) (by first | decide | omega) (by first | decide | omega) dX0_reading_18

abbrev rm_X0_reading_n2 : Room := { frames := 8, cells := 1, slots := 6, locals := 126 }
theorem k_X0_reading_n2 (l : Launch) (g : GG) (A : Nat → Prop) (hlt : l.stackTraces = false) (ad : Nat → Nat → Nat) (x : St) (oa : Nat) (v : Int64) (hls : lsOK x) (b : Nat) (hbb : b < nt x 19 0) (a1 a2 : Int32) (h1 : inF a2 0 4 = 0) : Met l yX0_reading (wsW_ yX0_reading cX0_reading 6 (some .int) [(0, 12, 15, 13)]) rm_X0_reading_n2 (va_Pc [.ref (ad 0 0), .int (nI b), .int a1, .int a2, .ref oa] (mPre g A (cwM g ad (Mo g oa v) x))) (pQi g A 1 (cwM g ad (Mo g oa v) x)) 1 6 A := by
  refine m_startW RX0 rfl (by decide) (Nat.le_of_ble_eq_true rfl) ?_
  intro p e s m args below meth c hcf hr hlk hnm hE hA htb H locs hM hS ls hl
  have hx := hcf.1
  have hb := hcf.2.1
  have hml := hcf.2.2.1
  have hown := hcf.2.2.2.1
  have hts := hcf.2.2.2.2
  have hl : lv_has ls 6 [(0, .ref (ad 0 0)), (1, .int (nI b)), (2, .int a1), (3, .int a2), (4, .ref oa)] := hl
  generalize hQ : MQ below (pQi g A 1 (cwM g ad (Mo g oa v) x)) args s 1 6 A = Q
  refine lv_aload hx hb dX0_reading_0 (lv_at hl 4 rfl) ?_
  refine lv_iconst (v := 0) hx hb dX0_reading_2 (by decide) ?_
  refine lv_aload_n hx hb dX0_reading_3 rfl (lv_at hl 0 rfl) ?_
  refine lv_iload_n hx hb dX0_reading_4 rfl (lv_at hl 1 rfl) ?_
  refine lv_iload_n hx hb dX0_reading_5 rfl (lv_at hl 2 rfl) ?_
  refine lv_iload_n hx hb dX0_reading_6 rfl (lv_at hl 3 rfl) ?_
  refine m_xcatch (own := "WakegroundLaw") (name := "java/lang/IndexOutOfBoundsException") (m_xV (As := [.int (nI b), .int a1, .int a2]) (rest := [.int 0, .ref oa]) hcf (k_X1_reading_n2 l g A hlt ad (Mo g oa v) x hls b hbb a1 a2 h1) (cwV 3 hts (lw_V q891 q892 q893 q35 q894) rfl rfl rfl (by decide +kernel) ⟨Nat.le_of_ble_eq_true rfl, Nat.le_of_ble_eq_true rfl⟩) hE hA hM hS 0 0 cw_0 (ci := 0) rfl rfl hl.1 rfl (Nat.le_of_ble_eq_true rfl) dX0_reading_7 ⟨Nat.le_of_ble_eq_true rfl, Nat.le_of_ble_eq_true rfl⟩) hS hown [] ⟨0, 12, 15, 13⟩ [] (htb.trans rfl) (fun z hz => absurd hz List.not_mem_nil) rfl (by decide) (hts _ q374) (va_Nw.use rfl (hE.nw 3 rfl)) (fun q9 H locs hM hS => ?_)
  refine lv_astore (lv' := [(5, .ref q9), (0, .ref (ad 0 0)), (1, .int (nI b)), (2, .int a1), (3, .int a2), (4, .ref oa)]) hx hb dX0_reading_15 hl (by decide) rfl (fun ls hl => ?_)
  refine lv_iconst (v := 1) hx hb dX0_reading_17 (by decide) ?_
  rw [← hQ]
  exact m_iret () hx hb hr rfl hlk hM hS (by first | rfl) (by first | decide | omega) (by first | decide | omega) dX0_reading_18

abbrev rm_X0_reading_n3 : Room := { frames := 8, cells := 1, slots := 6, locals := 126 }
theorem k_X0_reading_n3 (l : Launch) (g : GG) (A : Nat → Prop) (hlt : l.stackTraces = false) (ad : Nat → Nat → Nat) (x : St) (oa : Nat) (v : Int64) (hls : lsOK x) (b : Nat) (hbb : b < nt x 19 0) (a1 : Int32) (n : Nat) (hn : n < 5) (hw : chasF x b a1 (x.1 1 0) = 0) : Met l yX0_reading (wsW_ yX0_reading cX0_reading 6 (some .int) [(0, 12, 15, 13)]) rm_X0_reading_n3 (va_Pc [.ref (ad 0 0), .int (nI b), .int a1, .int (nI n), .ref oa] (mPre g A (cwM g ad (Mo g oa v) x))) (pQi g A 1 (cwM g ad (Mo g oa v) x)) 1 6 A := by
  refine m_startW RX0 rfl (by decide) (Nat.le_of_ble_eq_true rfl) ?_
  intro p e s m args below meth c hcf hr hlk hnm hE hA htb H locs hM hS ls hl
  have hx := hcf.1
  have hb := hcf.2.1
  have hml := hcf.2.2.1
  have hown := hcf.2.2.2.1
  have hts := hcf.2.2.2.2
  have hl : lv_has ls 6 [(0, .ref (ad 0 0)), (1, .int (nI b)), (2, .int a1), (3, .int (nI n)), (4, .ref oa)] := hl
  generalize hQ : MQ below (pQi g A 1 (cwM g ad (Mo g oa v) x)) args s 1 6 A = Q
  refine lv_aload hx hb dX0_reading_0 (lv_at hl 4 rfl) ?_
  refine lv_iconst (v := 0) hx hb dX0_reading_2 (by decide) ?_
  refine lv_aload_n hx hb dX0_reading_3 rfl (lv_at hl 0 rfl) ?_
  refine lv_iload_n hx hb dX0_reading_4 rfl (lv_at hl 1 rfl) ?_
  refine lv_iload_n hx hb dX0_reading_5 rfl (lv_at hl 2 rfl) ?_
  refine lv_iload_n hx hb dX0_reading_6 rfl (lv_at hl 3 rfl) ?_
  refine m_xcatch (own := "WakegroundLaw") (name := "java/lang/IndexOutOfBoundsException") (m_xV (As := [.int (nI b), .int a1, .int (nI n)]) (rest := [.int 0, .ref oa]) hcf (k_X1_reading_n3 l g A hlt ad (Mo g oa v) x hls b hbb a1 n hn hw) (cwV 3 hts (lw_V q891 q892 q893 q35 q894) rfl rfl rfl (by decide +kernel) ⟨Nat.le_of_ble_eq_true rfl, Nat.le_of_ble_eq_true rfl⟩) hE hA hM hS 0 0 cw_0 (ci := 0) rfl rfl hl.1 rfl (Nat.le_of_ble_eq_true rfl) dX0_reading_7 ⟨Nat.le_of_ble_eq_true rfl, Nat.le_of_ble_eq_true rfl⟩) hS hown [] ⟨0, 12, 15, 13⟩ [] (htb.trans rfl) (fun z hz => absurd hz List.not_mem_nil) rfl (by decide) (hts _ q374) (va_Nw.use rfl (hE.nw 3 rfl)) (fun q9 H locs hM hS => ?_)
  refine lv_astore (lv' := [(5, .ref q9), (0, .ref (ad 0 0)), (1, .int (nI b)), (2, .int a1), (3, .int (nI n)), (4, .ref oa)]) hx hb dX0_reading_15 hl (by decide) rfl (fun ls hl => ?_)
  refine lv_iconst (v := 1) hx hb dX0_reading_17 (by decide) ?_
  rw [← hQ]
  exact m_iret () hx hb hr rfl hlk hM hS (by first | rfl) (by first | decide | omega) (by first | decide | omega) dX0_reading_18

abbrev rm_X0_claimOf_ok : Room := { frames := 5, cells := 0, slots := 0, locals := 106 }
theorem k_X0_claimOf_ok (l : Launch) (g : GG) (A : Nat → Prop) (ad : Nat → Nat → Nat) (x : St) (oa : Nat) (v : Int64) (hls : lsOK x) (n : Nat) (hn : n < nt x 24 0) : Met l yX0_claimOf (wsW_ yX0_claimOf cX0_claimOf 4 (some .int) [(0, 9, 12, 13)]) rm_X0_claimOf_ok (va_Pc [.ref (ad 0 0), .int (nI n), .ref oa] (mPre g A (cwM g ad (Mo g oa v) x))) (pQi g A 0 (cwM g ad (Mo g oa ((x.1 25 n).toInt64)) x)) 0 0 A := by
  refine m_startW RX0 rfl (by decide) (Nat.le_of_ble_eq_true rfl) ?_
  intro p e s m args below meth c hcf hr hlk hnm hE hA htb H locs hM hS ls hl
  have hx := hcf.1
  have hb := hcf.2.1
  have hml := hcf.2.2.1
  have hown := hcf.2.2.2.1
  have hts := hcf.2.2.2.2
  have hl : lv_has ls 4 [(0, .ref (ad 0 0)), (1, .int (nI n)), (2, .ref oa)] := hl
  generalize hQ : MQ below (pQi g A 0 (cwM g ad (Mo g oa ((x.1 25 n).toInt64)) x)) args s 0 0 A = Q
  refine lv_aload_n hx hb dX0_claimOf_0 rfl (lv_at hl 2 rfl) ?_
  refine lv_iconst (v := 0) hx hb dX0_claimOf_1 (by decide) ?_
  refine lv_aload_n hx hb dX0_claimOf_2 rfl (lv_at hl 0 rfl) ?_
  refine lv_iload_n hx hb dX0_claimOf_3 rfl (lv_at hl 1 rfl) ?_
  refine m_cpi (m_rV (As := [.int (nI n)]) (rest := [.int 0, .ref oa]) hcf (k_X1_claimOf_ok l g A ad (Mo g oa v) x hls n hn) (cwV 1 hts (lw_V q898 q899 q900 q35 q901) rfl rfl rfl (by decide +kernel) ⟨Nat.le_of_ble_eq_true rfl, Nat.le_of_ble_eq_true rfl⟩) hE hA hM hS 0 0 cw_0 (ci := 0) rfl rfl hl.1 rfl (Nat.le_of_ble_eq_true rfl) dX0_claimOf_4 ⟨Nat.le_of_ble_eq_true rfl, Nat.le_of_ble_eq_true rfl⟩) hS (fun H locs hM hS => ?_)
  refine lv_i2l hx hb dX0_claimOf_7 rfl ?_
  refine mo_st (w := (x.1 25 n).toInt64) hcf hE hM hS dX0_claimOf_8 (fun H locs hM hS => ?_)
  refine lv_goto (tgt := 15) hx hb dX0_claimOf_9 (by decide) ?_
  refine lv_iconst (v := 0) hx hb dX0_claimOf_15 (by decide) ?_
  rw [← hQ]
  exact m_iret () hx hb hr rfl hlk hM hS (by first | rfl) (by first | decide | omega) (by first | decide | omega) dX0_claimOf_16

abbrev rm_X0_claimOf_n1 : Room := { frames := 9, cells := 1, slots := 6, locals := 144 }
theorem k_X0_claimOf_n1 (l : Launch) (g : GG) (A : Nat → Prop) (hlt : l.stackTraces = false) (ad : Nat → Nat → Nat) (x : St) (oa : Nat) (v : Int64) (hls : lsOK x) (a0 : Int32) (h0 : inF a0 0 (nI (nt x 24 0) - 1) = 0) : Met l yX0_claimOf (wsW_ yX0_claimOf cX0_claimOf 4 (some .int) [(0, 9, 12, 13)]) rm_X0_claimOf_n1 (va_Pc [.ref (ad 0 0), .int a0, .ref oa] (mPre g A (cwM g ad (Mo g oa v) x))) (pQi g A 1 (cwM g ad (Mo g oa v) x)) 1 6 A := by
  refine m_startW RX0 rfl (by decide) (Nat.le_of_ble_eq_true rfl) ?_
  intro p e s m args below meth c hcf hr hlk hnm hE hA htb H locs hM hS ls hl
  have hx := hcf.1
  have hb := hcf.2.1
  have hml := hcf.2.2.1
  have hown := hcf.2.2.2.1
  have hts := hcf.2.2.2.2
  have hl : lv_has ls 4 [(0, .ref (ad 0 0)), (1, .int a0), (2, .ref oa)] := hl
  generalize hQ : MQ below (pQi g A 1 (cwM g ad (Mo g oa v) x)) args s 1 6 A = Q
  refine lv_aload_n hx hb dX0_claimOf_0 rfl (lv_at hl 2 rfl) ?_
  refine lv_iconst (v := 0) hx hb dX0_claimOf_1 (by decide) ?_
  refine lv_aload_n hx hb dX0_claimOf_2 rfl (lv_at hl 0 rfl) ?_
  refine lv_iload_n hx hb dX0_claimOf_3 rfl (lv_at hl 1 rfl) ?_
  refine m_xcatch (own := "WakegroundLaw") (name := "java/lang/IndexOutOfBoundsException") (m_xV (As := [.int a0]) (rest := [.int 0, .ref oa]) hcf (k_X1_claimOf_no l g A hlt ad (Mo g oa v) x hls a0 h0) (cwV 1 hts (lw_V q898 q899 q900 q35 q901) rfl rfl rfl (by decide +kernel) ⟨Nat.le_of_ble_eq_true rfl, Nat.le_of_ble_eq_true rfl⟩) hE hA hM hS 0 0 cw_0 (ci := 0) rfl rfl hl.1 rfl (Nat.le_of_ble_eq_true rfl) dX0_claimOf_4 ⟨Nat.le_of_ble_eq_true rfl, Nat.le_of_ble_eq_true rfl⟩) hS hown [] ⟨0, 9, 12, 13⟩ [] (htb.trans rfl) (fun z hz => absurd hz List.not_mem_nil) rfl (by decide) (hts _ q374) (va_Nw.use rfl (hE.nw 3 rfl)) (fun q9 H locs hM hS => ?_)
  refine lv_astore_n (lv' := [(3, .ref q9), (0, .ref (ad 0 0)), (1, .int a0), (2, .ref oa)]) hx hb dX0_claimOf_12 rfl hl (by decide) rfl (fun ls hl => ?_)
  refine lv_iconst (v := 1) hx hb dX0_claimOf_13 (by decide) ?_
  rw [← hQ]
  exact m_iret () hx hb hr rfl hlk hM hS (by first | rfl) (by first | decide | omega) (by first | decide | omega) dX0_claimOf_14

abbrev rm_X0_claimAnew_ok : Room := { frames := 5, cells := 0, slots := 0, locals := 114 }
theorem k_X0_claimAnew_ok (l : Launch) (g : GG) (A : Nat → Prop) (ad : Nat → Nat → Nat) (x : St) (oa : Nat) (v : Int64) (hls : lsOK x) (hok : okM x) (n : Nat) (hn : n < nt x 24 0) (h40 : nt x 40 n < nt x 13 0) (h42 : x.1 42 n = nI (nt x 42 n)) (h42b : nt x 42 n ≤ 600) : Met l yX0_claimAnew (wsW_ yX0_claimAnew cX0_claimAnew 4 (some .int) [(0, 9, 12, 13)]) rm_X0_claimAnew_ok (va_Pc [.ref (ad 0 0), .int (nI n), .ref oa] (mPre g A (cwM g ad (Mo g oa v) x))) (pQi g A 0 (cwM g ad (Mo g oa ((cdueF x (nt x 40 n) (x.1 41 n) (nt x 42 n)).toInt64)) x)) 0 0 A := by
  refine m_startW RX0 rfl (by decide) (Nat.le_of_ble_eq_true rfl) ?_
  intro p e s m args below meth c hcf hr hlk hnm hE hA htb H locs hM hS ls hl
  have hx := hcf.1
  have hb := hcf.2.1
  have hml := hcf.2.2.1
  have hown := hcf.2.2.2.1
  have hts := hcf.2.2.2.2
  have hl : lv_has ls 4 [(0, .ref (ad 0 0)), (1, .int (nI n)), (2, .ref oa)] := hl
  generalize hQ : MQ below (pQi g A 0 (cwM g ad (Mo g oa ((cdueF x (nt x 40 n) (x.1 41 n) (nt x 42 n)).toInt64)) x)) args s 0 0 A = Q
  refine lv_aload_n hx hb dX0_claimAnew_0 rfl (lv_at hl 2 rfl) ?_
  refine lv_iconst (v := 0) hx hb dX0_claimAnew_1 (by decide) ?_
  refine lv_aload_n hx hb dX0_claimAnew_2 rfl (lv_at hl 0 rfl) ?_
  refine lv_iload_n hx hb dX0_claimAnew_3 rfl (lv_at hl 1 rfl) ?_
  refine m_cpi (m_rV (As := [.int (nI n)]) (rest := [.int 0, .ref oa]) hcf (k_X1_claimAnew_ok l g A ad (Mo g oa v) x hls hok n hn h40 h42 h42b) (cwV 1 hts (lw_V q909 q910 q911 q35 q912) rfl rfl rfl (by decide +kernel) ⟨Nat.le_of_ble_eq_true rfl, Nat.le_of_ble_eq_true rfl⟩) hE hA hM hS 0 0 cw_0 (ci := 0) rfl rfl hl.1 rfl (Nat.le_of_ble_eq_true rfl) dX0_claimAnew_4 ⟨Nat.le_of_ble_eq_true rfl, Nat.le_of_ble_eq_true rfl⟩) hS (fun H locs hM hS => ?_)
  refine lv_i2l hx hb dX0_claimAnew_7 rfl ?_
  refine mo_st (w := (cdueF x (nt x 40 n) (x.1 41 n) (nt x 42 n)).toInt64) hcf hE hM hS dX0_claimAnew_8 (fun H locs hM hS => ?_)
  refine lv_goto (tgt := 15) hx hb dX0_claimAnew_9 (by decide) ?_
  refine lv_iconst (v := 0) hx hb dX0_claimAnew_15 (by decide) ?_
  rw [← hQ]
  exact m_iret () hx hb hr rfl hlk hM hS (by first | rfl) (by first | decide | omega) (by first | decide | omega) dX0_claimAnew_16

abbrev rm_X0_claimAnew_n1 : Room := { frames := 9, cells := 1, slots := 6, locals := 145 }
theorem k_X0_claimAnew_n1 (l : Launch) (g : GG) (A : Nat → Prop) (hlt : l.stackTraces = false) (ad : Nat → Nat → Nat) (x : St) (oa : Nat) (v : Int64) (hls : lsOK x) (a0 : Int32) (h0 : inF a0 0 (nI (nt x 24 0) - 1) = 0) : Met l yX0_claimAnew (wsW_ yX0_claimAnew cX0_claimAnew 4 (some .int) [(0, 9, 12, 13)]) rm_X0_claimAnew_n1 (va_Pc [.ref (ad 0 0), .int a0, .ref oa] (mPre g A (cwM g ad (Mo g oa v) x))) (pQi g A 1 (cwM g ad (Mo g oa v) x)) 1 6 A := by
  refine m_startW RX0 rfl (by decide) (Nat.le_of_ble_eq_true rfl) ?_
  intro p e s m args below meth c hcf hr hlk hnm hE hA htb H locs hM hS ls hl
  have hx := hcf.1
  have hb := hcf.2.1
  have hml := hcf.2.2.1
  have hown := hcf.2.2.2.1
  have hts := hcf.2.2.2.2
  have hl : lv_has ls 4 [(0, .ref (ad 0 0)), (1, .int a0), (2, .ref oa)] := hl
  generalize hQ : MQ below (pQi g A 1 (cwM g ad (Mo g oa v) x)) args s 1 6 A = Q
  refine lv_aload_n hx hb dX0_claimAnew_0 rfl (lv_at hl 2 rfl) ?_
  refine lv_iconst (v := 0) hx hb dX0_claimAnew_1 (by decide) ?_
  refine lv_aload_n hx hb dX0_claimAnew_2 rfl (lv_at hl 0 rfl) ?_
  refine lv_iload_n hx hb dX0_claimAnew_3 rfl (lv_at hl 1 rfl) ?_
  refine m_xcatch (own := "WakegroundLaw") (name := "java/lang/IndexOutOfBoundsException") (m_xV (As := [.int a0]) (rest := [.int 0, .ref oa]) hcf (k_X1_claimAnew_no l g A hlt ad (Mo g oa v) x hls a0 h0) (cwV 1 hts (lw_V q909 q910 q911 q35 q912) rfl rfl rfl (by decide +kernel) ⟨Nat.le_of_ble_eq_true rfl, Nat.le_of_ble_eq_true rfl⟩) hE hA hM hS 0 0 cw_0 (ci := 0) rfl rfl hl.1 rfl (Nat.le_of_ble_eq_true rfl) dX0_claimAnew_4 ⟨Nat.le_of_ble_eq_true rfl, Nat.le_of_ble_eq_true rfl⟩) hS hown [] ⟨0, 9, 12, 13⟩ [] (htb.trans rfl) (fun z hz => absurd hz List.not_mem_nil) rfl (by decide) (hts _ q374) (va_Nw.use rfl (hE.nw 3 rfl)) (fun q9 H locs hM hS => ?_)
  refine lv_astore_n (lv' := [(3, .ref q9), (0, .ref (ad 0 0)), (1, .int a0), (2, .ref oa)]) hx hb dX0_claimAnew_12 rfl hl (by decide) rfl (fun ls hl => ?_)
  refine lv_iconst (v := 1) hx hb dX0_claimAnew_13 (by decide) ?_
  rw [← hQ]
  exact m_iret () hx hb hr rfl hlk hM hS (by first | rfl) (by first | decide | omega) (by first | decide | omega) dX0_claimAnew_14

abbrev rm_X0_balance_ok : Room := { frames := 2, cells := 0, slots := 0, locals := 55 }
theorem k_X0_balance_ok (l : Launch) (g : GG) (A : Nat → Prop) (ad : Nat → Nat → Nat) (x : St) (oa : Nat) (v : Int64) (j : Nat) (hj : j < 3) (a1 : Int32) (hw : inF a1 0 3 = 1) : Met l yX0_balance (wsW_ yX0_balance cX0_balance 5 (some .int) [(0, 9, 12, 15)]) rm_X0_balance_ok (va_Pc [.ref (ad 0 0), .int (nI j), .int a1, .ref oa] (mPre g A (cwM g ad (Mo g oa v) x))) (pQi g A 0 (cwM g ad (Mo g oa (cbaF x j a1)) x)) 0 0 A := by
  refine m_startW RX0 rfl (by decide) (Nat.le_of_ble_eq_true rfl) ?_
  intro p e s m args below meth c hcf hr hlk hnm hE hA htb H locs hM hS ls hl
  have hx := hcf.1
  have hb := hcf.2.1
  have hml := hcf.2.2.1
  have hown := hcf.2.2.2.1
  have hts := hcf.2.2.2.2
  have hl : lv_has ls 5 [(0, .ref (ad 0 0)), (1, .int (nI j)), (2, .int a1), (3, .ref oa)] := hl
  generalize hQ : MQ below (pQi g A 0 (cwM g ad (Mo g oa (cbaF x j a1)) x)) args s 0 0 A = Q
  refine lv_aload_n hx hb dX0_balance_0 rfl (lv_at hl 3 rfl) ?_
  refine lv_iconst (v := 0) hx hb dX0_balance_1 (by decide) ?_
  refine lv_aload_n hx hb dX0_balance_2 rfl (lv_at hl 0 rfl) ?_
  refine lv_iload_n hx hb dX0_balance_3 rfl (lv_at hl 1 rfl) ?_
  refine lv_iload_n hx hb dX0_balance_4 rfl (lv_at hl 2 rfl) ?_
  refine m_cpl (m_rV (As := [.int (nI j), .int a1]) (rest := [.int 0, .ref oa]) hcf (k_X1_balance_ok l g A ad (Mo g oa v) x j hj a1 hw) (cwV 2 hts (lw_V q916 q917 q918 q35 q919) rfl rfl rfl (by decide +kernel) ⟨Nat.le_of_ble_eq_true rfl, Nat.le_of_ble_eq_true rfl⟩) hE hA hM hS 0 0 cw_0 (ci := 0) rfl rfl hl.1 rfl (Nat.le_of_ble_eq_true rfl) dX0_balance_5 ⟨Nat.le_of_ble_eq_true rfl, Nat.le_of_ble_eq_true rfl⟩) hS (fun H locs hM hS => ?_)
  refine mo_st (w := cbaF x j a1) hcf hE hM hS dX0_balance_8 (fun H locs hM hS => ?_)
  refine lv_goto (tgt := 16) hx hb dX0_balance_9 (by decide) ?_
  refine lv_iconst (v := 0) hx hb dX0_balance_16 (by decide) ?_
  rw [← hQ]
  exact m_iret () hx hb hr rfl hlk hM hS (by first | rfl) (by first | decide | omega) (by first | decide | omega) dX0_balance_17

abbrev rm_X0_balance_n1 : Room := { frames := 8, cells := 1, slots := 6, locals := 126 }
theorem k_X0_balance_n1 (l : Launch) (g : GG) (A : Nat → Prop) (hlt : l.stackTraces = false) (ad : Nat → Nat → Nat) (x : St) (oa : Nat) (v : Int64) (a0 a1 : Int32) (h0 : inF a0 0 2 = 0) : Met l yX0_balance (wsW_ yX0_balance cX0_balance 5 (some .int) [(0, 9, 12, 15)]) rm_X0_balance_n1 (va_Pc [.ref (ad 0 0), .int a0, .int a1, .ref oa] (mPre g A (cwM g ad (Mo g oa v) x))) (pQi g A 1 (cwM g ad (Mo g oa v) x)) 1 6 A := by
  refine m_startW RX0 rfl (by decide) (Nat.le_of_ble_eq_true rfl) ?_
  intro p e s m args below meth c hcf hr hlk hnm hE hA htb H locs hM hS ls hl
  have hx := hcf.1
  have hb := hcf.2.1
  have hml := hcf.2.2.1
  have hown := hcf.2.2.2.1
  have hts := hcf.2.2.2.2
  have hl : lv_has ls 5 [(0, .ref (ad 0 0)), (1, .int a0), (2, .int a1), (3, .ref oa)] := hl
  generalize hQ : MQ below (pQi g A 1 (cwM g ad (Mo g oa v) x)) args s 1 6 A = Q
  refine lv_aload_n hx hb dX0_balance_0 rfl (lv_at hl 3 rfl) ?_
  refine lv_iconst (v := 0) hx hb dX0_balance_1 (by decide) ?_
  refine lv_aload_n hx hb dX0_balance_2 rfl (lv_at hl 0 rfl) ?_
  refine lv_iload_n hx hb dX0_balance_3 rfl (lv_at hl 1 rfl) ?_
  refine lv_iload_n hx hb dX0_balance_4 rfl (lv_at hl 2 rfl) ?_
  refine m_xcatch (own := "WakegroundLaw") (name := "java/lang/IllegalArgumentException") (m_xV (As := [.int a0, .int a1]) (rest := [.int 0, .ref oa]) hcf (k_X1_balance_n1 l g A hlt ad (Mo g oa v) x a0 a1 h0) (cwV 2 hts (lw_V q916 q917 q918 q35 q919) rfl rfl rfl (by decide +kernel) ⟨Nat.le_of_ble_eq_true rfl, Nat.le_of_ble_eq_true rfl⟩) hE hA hM hS 0 0 cw_0 (ci := 0) rfl rfl hl.1 rfl (Nat.le_of_ble_eq_true rfl) dX0_balance_5 ⟨Nat.le_of_ble_eq_true rfl, Nat.le_of_ble_eq_true rfl⟩) hS hown [] ⟨0, 9, 12, 15⟩ [] (htb.trans rfl) (fun z hz => absurd hz List.not_mem_nil) rfl (by decide) (hts _ q407) (va_Nw.use rfl (hE.nw 4 rfl)) (fun q9 H locs hM hS => ?_)
  refine lv_astore (lv' := [(4, .ref q9), (0, .ref (ad 0 0)), (1, .int a0), (2, .int a1), (3, .ref oa)]) hx hb dX0_balance_12 hl (by decide) rfl (fun ls hl => ?_)
  refine lv_iconst (v := 1) hx hb dX0_balance_14 (by decide) ?_
  rw [← hQ]
  exact m_iret () hx hb hr rfl hlk hM hS (by first | rfl) (by first | decide | omega) (by first | decide | omega) dX0_balance_15

abbrev rm_X0_balance_n2 : Room := { frames := 8, cells := 1, slots := 6, locals := 126 }
theorem k_X0_balance_n2 (l : Launch) (g : GG) (A : Nat → Prop) (hlt : l.stackTraces = false) (ad : Nat → Nat → Nat) (x : St) (oa : Nat) (v : Int64) (j : Nat) (hj : j < 3) (a1 : Int32) (hw : inF a1 0 3 = 0) : Met l yX0_balance (wsW_ yX0_balance cX0_balance 5 (some .int) [(0, 9, 12, 15)]) rm_X0_balance_n2 (va_Pc [.ref (ad 0 0), .int (nI j), .int a1, .ref oa] (mPre g A (cwM g ad (Mo g oa v) x))) (pQi g A 1 (cwM g ad (Mo g oa v) x)) 1 6 A := by
  refine m_startW RX0 rfl (by decide) (Nat.le_of_ble_eq_true rfl) ?_
  intro p e s m args below meth c hcf hr hlk hnm hE hA htb H locs hM hS ls hl
  have hx := hcf.1
  have hb := hcf.2.1
  have hml := hcf.2.2.1
  have hown := hcf.2.2.2.1
  have hts := hcf.2.2.2.2
  have hl : lv_has ls 5 [(0, .ref (ad 0 0)), (1, .int (nI j)), (2, .int a1), (3, .ref oa)] := hl
  generalize hQ : MQ below (pQi g A 1 (cwM g ad (Mo g oa v) x)) args s 1 6 A = Q
  refine lv_aload_n hx hb dX0_balance_0 rfl (lv_at hl 3 rfl) ?_
  refine lv_iconst (v := 0) hx hb dX0_balance_1 (by decide) ?_
  refine lv_aload_n hx hb dX0_balance_2 rfl (lv_at hl 0 rfl) ?_
  refine lv_iload_n hx hb dX0_balance_3 rfl (lv_at hl 1 rfl) ?_
  refine lv_iload_n hx hb dX0_balance_4 rfl (lv_at hl 2 rfl) ?_
  refine m_xcatch (own := "WakegroundLaw") (name := "java/lang/IllegalArgumentException") (m_xV (As := [.int (nI j), .int a1]) (rest := [.int 0, .ref oa]) hcf (k_X1_balance_n2 l g A hlt ad (Mo g oa v) x j hj a1 hw) (cwV 2 hts (lw_V q916 q917 q918 q35 q919) rfl rfl rfl (by decide +kernel) ⟨Nat.le_of_ble_eq_true rfl, Nat.le_of_ble_eq_true rfl⟩) hE hA hM hS 0 0 cw_0 (ci := 0) rfl rfl hl.1 rfl (Nat.le_of_ble_eq_true rfl) dX0_balance_5 ⟨Nat.le_of_ble_eq_true rfl, Nat.le_of_ble_eq_true rfl⟩) hS hown [] ⟨0, 9, 12, 15⟩ [] (htb.trans rfl) (fun z hz => absurd hz List.not_mem_nil) rfl (by decide) (hts _ q407) (va_Nw.use rfl (hE.nw 4 rfl)) (fun q9 H locs hM hS => ?_)
  refine lv_astore (lv' := [(4, .ref q9), (0, .ref (ad 0 0)), (1, .int (nI j)), (2, .int a1), (3, .ref oa)]) hx hb dX0_balance_12 hl (by decide) rfl (fun ls hl => ?_)
  refine lv_iconst (v := 1) hx hb dX0_balance_14 (by decide) ?_
  rw [← hQ]
  exact m_iret () hx hb hr rfl hlk hM hS (by first | rfl) (by first | decide | omega) (by first | decide | omega) dX0_balance_15

abbrev rm_X0_air_ok : Room := { frames := 2, cells := 0, slots := 0, locals := 43 }
theorem k_X0_air_ok (l : Launch) (g : GG) (A : Nat → Prop) (ad : Nat → Nat → Nat) (x : St) (oa : Nat) (v : Int64) (j : Nat) (hj : j < 2) : Met l yX0_air (wsW_ yX0_air cX0_air 4 (some .int) [(0, 8, 11, 15)]) rm_X0_air_ok (va_Pc [.ref (ad 0 0), .int (nI j), .ref oa] (mPre g A (cwM g ad (Mo g oa v) x))) (pQi g A 0 (cwM g ad (Mo g oa (x.2 (30 + j))) x)) 0 0 A := by
  refine m_startW RX0 rfl (by decide) (Nat.le_of_ble_eq_true rfl) ?_
  intro p e s m args below meth c hcf hr hlk hnm hE hA htb H locs hM hS ls hl
  have hx := hcf.1
  have hb := hcf.2.1
  have hml := hcf.2.2.1
  have hown := hcf.2.2.2.1
  have hts := hcf.2.2.2.2
  have hl : lv_has ls 4 [(0, .ref (ad 0 0)), (1, .int (nI j)), (2, .ref oa)] := hl
  generalize hQ : MQ below (pQi g A 0 (cwM g ad (Mo g oa (x.2 (30 + j))) x)) args s 0 0 A = Q
  refine lv_aload_n hx hb dX0_air_0 rfl (lv_at hl 2 rfl) ?_
  refine lv_iconst (v := 0) hx hb dX0_air_1 (by decide) ?_
  refine lv_aload_n hx hb dX0_air_2 rfl (lv_at hl 0 rfl) ?_
  refine lv_iload_n hx hb dX0_air_3 rfl (lv_at hl 1 rfl) ?_
  refine m_cpl (m_rV (As := [.int (nI j)]) (rest := [.int 0, .ref oa]) hcf (k_X1_air_ok l g A ad (Mo g oa v) x j hj) (cwV 1 hts (lw_V q923 q924 q925 q35 q926) rfl rfl rfl (by decide +kernel) ⟨Nat.le_of_ble_eq_true rfl, Nat.le_of_ble_eq_true rfl⟩) hE hA hM hS 0 0 cw_0 (ci := 0) rfl rfl hl.1 rfl (Nat.le_of_ble_eq_true rfl) dX0_air_4 ⟨Nat.le_of_ble_eq_true rfl, Nat.le_of_ble_eq_true rfl⟩) hS (fun H locs hM hS => ?_)
  refine mo_st (w := x.2 (30 + j)) hcf hE hM hS dX0_air_7 (fun H locs hM hS => ?_)
  refine lv_goto (tgt := 14) hx hb dX0_air_8 (by decide) ?_
  refine lv_iconst (v := 0) hx hb dX0_air_14 (by decide) ?_
  rw [← hQ]
  exact m_iret () hx hb hr rfl hlk hM hS (by first | rfl) (by first | decide | omega) (by first | decide | omega) dX0_air_15

abbrev rm_X0_air_n1 : Room := { frames := 8, cells := 1, slots := 6, locals := 123 }
theorem k_X0_air_n1 (l : Launch) (g : GG) (A : Nat → Prop) (hlt : l.stackTraces = false) (ad : Nat → Nat → Nat) (x : St) (oa : Nat) (v : Int64) (a0 : Int32) (h0 : inF a0 0 1 = 0) : Met l yX0_air (wsW_ yX0_air cX0_air 4 (some .int) [(0, 8, 11, 15)]) rm_X0_air_n1 (va_Pc [.ref (ad 0 0), .int a0, .ref oa] (mPre g A (cwM g ad (Mo g oa v) x))) (pQi g A 1 (cwM g ad (Mo g oa v) x)) 1 6 A := by
  refine m_startW RX0 rfl (by decide) (Nat.le_of_ble_eq_true rfl) ?_
  intro p e s m args below meth c hcf hr hlk hnm hE hA htb H locs hM hS ls hl
  have hx := hcf.1
  have hb := hcf.2.1
  have hml := hcf.2.2.1
  have hown := hcf.2.2.2.1
  have hts := hcf.2.2.2.2
  have hl : lv_has ls 4 [(0, .ref (ad 0 0)), (1, .int a0), (2, .ref oa)] := hl
  generalize hQ : MQ below (pQi g A 1 (cwM g ad (Mo g oa v) x)) args s 1 6 A = Q
  refine lv_aload_n hx hb dX0_air_0 rfl (lv_at hl 2 rfl) ?_
  refine lv_iconst (v := 0) hx hb dX0_air_1 (by decide) ?_
  refine lv_aload_n hx hb dX0_air_2 rfl (lv_at hl 0 rfl) ?_
  refine lv_iload_n hx hb dX0_air_3 rfl (lv_at hl 1 rfl) ?_
  refine m_xcatch (own := "WakegroundLaw") (name := "java/lang/IllegalArgumentException") (m_xV (As := [.int a0]) (rest := [.int 0, .ref oa]) hcf (k_X1_air_no l g A hlt ad (Mo g oa v) x a0 h0) (cwV 1 hts (lw_V q923 q924 q925 q35 q926) rfl rfl rfl (by decide +kernel) ⟨Nat.le_of_ble_eq_true rfl, Nat.le_of_ble_eq_true rfl⟩) hE hA hM hS 0 0 cw_0 (ci := 0) rfl rfl hl.1 rfl (Nat.le_of_ble_eq_true rfl) dX0_air_4 ⟨Nat.le_of_ble_eq_true rfl, Nat.le_of_ble_eq_true rfl⟩) hS hown [] ⟨0, 8, 11, 15⟩ [] (htb.trans rfl) (fun z hz => absurd hz List.not_mem_nil) rfl (by decide) (hts _ q407) (va_Nw.use rfl (hE.nw 4 rfl)) (fun q9 H locs hM hS => ?_)
  refine lv_astore_n (lv' := [(3, .ref q9), (0, .ref (ad 0 0)), (1, .int a0), (2, .ref oa)]) hx hb dX0_air_11 rfl hl (by decide) rfl (fun ls hl => ?_)
  refine lv_iconst (v := 1) hx hb dX0_air_12 (by decide) ?_
  rw [← hQ]
  exact m_iret () hx hb hr rfl hlk hM hS (by first | rfl) (by first | decide | omega) (by first | decide | omega) dX0_air_13
