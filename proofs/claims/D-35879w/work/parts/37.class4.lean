/-! what is of a cell: houses, boreholes, the default methods -/
set_option maxRecDepth 100000
def cisW (x : St) (b h : Nat) : Int32 := if nt x 20 b = nt x 14 h then 1 else 0
theorem cisW_nar (x : St) (b h : Nat) : narrow .boolean (.int (cisW x b h)) = .int (cisW x b h) := by
  unfold cisW
  split <;> rfl
def chasF (x : St) (b : Nat) (month now : Int32) : Int32 := if month < x.1 22 b then 0 else (if now ≤ month then 0 else 1)
theorem chasF_nar (x : St) (b : Nat) (m n : Int32) : narrow .boolean (.int (chasF x b m n)) = .int (chasF x b m n) := by
  unfold chasF
  repeat' split
  all_goals rfl
def cstF (x : St) (h : Nat) : St := sI x 17 h (x.1 17 h + if cthF x (5 * nt x 14 h + nt x 15 h) = 0 then 0 else 1)
def crdS (b mo : Nat) (y : St) (l : Nat) : St := sI y 23 (3000 * b + (5 * mo + l)) (cdeg y (5 * nt y 20 b + l) + y.1 21 b * (nI mo - y.1 22 b + 1) / 12)
def crdL (b mo : Nat) (x : St) : Nat → St := it (crdS b mo) x
theorem crdL_s (b mo : Nat) (x : St) (i : Nat) : crdL b mo x (i + 1) = crdS b mo (crdL b mo x i) i := it_succ _ _ _
theorem crdL_o (b mo : Nat) (x : St) (f k : Nat) (hf : f ≠ 23) : ∀ i, (crdL b mo x i).1 f k = x.1 f k := by
  intro i
  induction i with
  | zero => rfl
  | succ i ih =>
    rw [crdL_s]
    unfold crdS
    rw [sI_ne _ _ _ _ hf]
    exact ih
def crdF (x : St) (b mo : Nat) : St := crdL b mo x 5
abbrev rm_X6_cell : Room := { frames := 0, cells := 0, slots := 0, locals := 0 }
set_option maxHeartbeats 400000 in
theorem k_X6_cell (l : Launch) (g : GG) (A : Nat → Prop) (ad : Nat → Nat → Nat) (Mx : MM) (x : St) (h : Nat) (hh : h < nt x 13 0) : Met l yX6_cell (ws_ yX6_cell cX6_cell 1 (some (.object "Wakeground$Cell"))) rm_X6_cell (va_Pc [.ref (ad 7 h)] (mPre g A (cwM g ad Mx x))) (pQr g A (ad 2 (nt x 14 h)) (cwM g ad Mx x)) 0 0 A := by
  refine m_start RX6 rfl (by decide) (Nat.le_of_ble_eq_true rfl) ?_
  intro p e s m args below meth c hcf hr hlk hnm hE hA H locs hM hS ls hl
  have hx := hcf.1
  have hb := hcf.2.1
  have hml := hcf.2.2.1
  have hown := hcf.2.2.2.1
  have hts := hcf.2.2.2.2
  have hl : lv_has ls 1 [(0, .ref (ad 7 h))] := hl
  generalize hQ : MQ below (pQr g A (ad 2 (nt x 14 h)) (cwM g ad Mx x)) args s 0 0 A = Q
  refine lv_aload_n hx hb dX6_cell_0 rfl (lv_at hl 0 rfl) ?_
  refine m_get hx hb hts in_X6 hown hE hM 7 h (cw_7 (by omega)) (ci := 5) rfl 0 (by decide) (hts _ q662) (fun _ h9 => h9) rfl dX6_cell_1 ?_
  rw [← hQ]
  exact m_aret () hx hb hr (by first | exact Or.inl ⟨_, rfl⟩ | exact Or.inr ⟨_, rfl⟩) hlk hM hS trivial rfl (by first | decide | omega) (by first | decide | omega) dX6_cell_4

abbrev rm_X7_cell : Room := { frames := 0, cells := 0, slots := 0, locals := 0 }
set_option maxHeartbeats 400000 in
theorem k_X7_cell (l : Launch) (g : GG) (A : Nat → Prop) (ad : Nat → Nat → Nat) (Mx : MM) (x : St) (b : Nat) (hbb : b < nt x 19 0) : Met l yX7_cell (ws_ yX7_cell cX7_cell 1 (some (.object "Wakeground$Cell"))) rm_X7_cell (va_Pc [.ref (ad 8 b)] (mPre g A (cwM g ad Mx x))) (pQr g A (ad 2 (nt x 20 b)) (cwM g ad Mx x)) 0 0 A := by
  refine m_start RX7 rfl (by decide) (Nat.le_of_ble_eq_true rfl) ?_
  intro p e s m args below meth c hcf hr hlk hnm hE hA H locs hM hS ls hl
  have hx := hcf.1
  have hb := hcf.2.1
  have hml := hcf.2.2.1
  have hown := hcf.2.2.2.1
  have hts := hcf.2.2.2.2
  have hl : lv_has ls 1 [(0, .ref (ad 8 b))] := hl
  generalize hQ : MQ below (pQr g A (ad 2 (nt x 20 b)) (cwM g ad Mx x)) args s 0 0 A = Q
  refine lv_aload_n hx hb dX7_cell_0 rfl (lv_at hl 0 rfl) ?_
  refine m_get hx hb hts in_X7 hown hE hM 8 b (cw_8 (by omega)) (ci := 6) rfl 0 (by decide) (hts _ q751) (fun _ h9 => h9) rfl dX7_cell_1 ?_
  rw [← hQ]
  exact m_aret () hx hb hr (by first | exact Or.inl ⟨_, rfl⟩ | exact Or.inr ⟨_, rfl⟩) hlk hM hS trivial rfl (by first | decide | omega) (by first | decide | omega) dX7_cell_4

abbrev rm_X9_isThawedAt : Room := { frames := 1, cells := 0, slots := 0, locals := 20 }
set_option maxHeartbeats 400000 in
theorem k_X9_isThawedAt (l : Launch) (g : GG) (A : Nat → Prop) (ad : Nat → Nat → Nat) (Mx : MM) (x : St) (h : Nat) (hh : h < nt x 13 0) (hc14 : nt x 14 h < 25) (n : Nat) (hn : n < 5) : Met l yX9_isThawedAt (ws_ yX9_isThawedAt cX9_isThawedAt 2 (some .boolean)) rm_X9_isThawedAt (va_Pc [.ref (ad 7 h), .int (nI n)] (mPre g A (cwM g ad Mx x))) (pQi g A (cthF x (5 * nt x 14 h + n)) (cwM g ad Mx x)) 0 0 A := by
  refine m_start RX9 rfl (by decide) (Nat.le_of_ble_eq_true rfl) ?_
  intro p e s m args below meth c hcf hr hlk hnm hE hA H locs hM hS ls hl
  have hx := hcf.1
  have hb := hcf.2.1
  have hml := hcf.2.2.1
  have hown := hcf.2.2.2.1
  have hts := hcf.2.2.2.2
  have hl : lv_has ls 2 [(0, .ref (ad 7 h)), (1, .int (nI n))] := hl
  generalize hQ : MQ below (pQi g A (cthF x (5 * nt x 14 h + n)) (cwM g ad Mx x)) args s 0 0 A = Q
  refine lv_aload_n hx hb dX9_isThawedAt_0 rfl (lv_at hl 0 rfl) ?_
  refine m_cFr (m_rF (As := []) (rest := []) hcf (k_X6_cell l g A ad Mx x h (by omega)) (va_cwF 0 hts (lw_F q605 q615 q617 q58 q619) rfl rfl rfl hE.X.2.2.1 (by decide +kernel) ⟨Nat.le_of_ble_eq_true rfl, Nat.le_of_ble_eq_true rfl⟩) hE hA hM hS 7 h (cw_7 (by omega)) (ci := 5) rfl rfl hl.1 rfl (Nat.le_of_ble_eq_true rfl) dX9_isThawedAt_1 ⟨Nat.le_of_ble_eq_true rfl, Nat.le_of_ble_eq_true rfl⟩) hS (fun H locs hM hS => ?_)
  refine m_get hx hb hts in_X2 hown hE hM 2 (nt x 14 h) (cw_2 (by omega)) (ci := 2) rfl 1 (by decide) (hts _ q139) (fun _ h9 => h9) rfl dX9_isThawedAt_6 ?_
  refine lv_iload_n hx hb dX9_isThawedAt_9 rfl (lv_at hl 1 rfl) ?_
  refine m_aald hx hb hE hM 3 (nt x 14 h) 4 (cw_3 (by omega)) rfl n (by omega) (by decide) rfl rfl dX9_isThawedAt_10 ?_
  refine m_cpi (m_rV (As := []) (rest := []) hcf (k_X3_isThawed l g A ad Mx x (5 * (nt x 14 h) + n) (by omega)) (cwV 0 hts (lw_V q620 q621 q622 q40 q623) rfl rfl rfl (by decide +kernel) ⟨Nat.le_of_ble_eq_true rfl, Nat.le_of_ble_eq_true rfl⟩) hE hA hM hS 4 (5 * (nt x 14 h) + n) (cw_4 (by omega)) (ci := 3) rfl rfl hl.1 rfl (Nat.le_of_ble_eq_true rfl) dX9_isThawedAt_11 ⟨Nat.le_of_ble_eq_true rfl, Nat.le_of_ble_eq_true rfl⟩) hS (fun H locs hM hS => ?_)
  rw [← hQ]
  exact m_iret () hx hb hr (by first | rfl | exact cthF_nar _ _) hlk hM hS (by first | rfl) (by first | decide | omega) (by first | decide | omega) dX9_isThawedAt_14

abbrev rm_X9_at : Room := { frames := 2, cells := 0, slots := 0, locals := 42 }
set_option maxHeartbeats 400000 in
theorem k_X9_at (l : Launch) (g : GG) (A : Nat → Prop) (ad : Nat → Nat → Nat) (Mx : MM) (x : St) (b : Nat) (hbb : b < nt x 19 0) (hc20 : nt x 20 b < 25) (n : Nat) (hn : n < 5) : Met l yX9_at (ws_ yX9_at cX9_at 2 (some .int)) rm_X9_at (va_Pc [.ref (ad 8 b), .int (nI n)] (mPre g A (cwM g ad Mx x))) (pQi g A (cdeg x (5 * nt x 20 b + n)) (cwM g ad Mx x)) 0 0 A := by
  refine m_start RX9 rfl (by decide) (Nat.le_of_ble_eq_true rfl) ?_
  intro p e s m args below meth c hcf hr hlk hnm hE hA H locs hM hS ls hl
  have hx := hcf.1
  have hb := hcf.2.1
  have hml := hcf.2.2.1
  have hown := hcf.2.2.2.1
  have hts := hcf.2.2.2.2
  have hl : lv_has ls 2 [(0, .ref (ad 8 b)), (1, .int (nI n))] := hl
  generalize hQ : MQ below (pQi g A (cdeg x (5 * nt x 20 b + n)) (cwM g ad Mx x)) args s 0 0 A = Q
  refine lv_aload_n hx hb dX9_at_0 rfl (lv_at hl 0 rfl) ?_
  refine m_cFr (m_rF (As := []) (rest := []) hcf (k_X7_cell l g A ad Mx x b (by omega)) (va_cwF 0 hts (lw_F q605 q609 q611 q62 q613) rfl rfl rfl hE.X.2.2.2.1 (by decide +kernel) ⟨Nat.le_of_ble_eq_true rfl, Nat.le_of_ble_eq_true rfl⟩) hE hA hM hS 8 b (cw_8 (by omega)) (ci := 6) rfl rfl hl.1 rfl (Nat.le_of_ble_eq_true rfl) dX9_at_1 ⟨Nat.le_of_ble_eq_true rfl, Nat.le_of_ble_eq_true rfl⟩) hS (fun H locs hM hS => ?_)
  refine lv_iload_n hx hb dX9_at_6 rfl (lv_at hl 1 rfl) ?_
  refine m_cpi (m_rV (As := [.int (nI n)]) (rest := []) hcf (k_X2_temperature l g A ad Mx x (nt x 20 b) (by omega) n (by omega)) (cwV 1 hts (lw_V q635 q504 q505 q39 q506) rfl rfl rfl (by decide +kernel) ⟨Nat.le_of_ble_eq_true rfl, Nat.le_of_ble_eq_true rfl⟩) hE hA hM hS 2 (nt x 20 b) (cw_2 (by omega)) (ci := 2) rfl rfl hl.1 rfl (Nat.le_of_ble_eq_true rfl) dX9_at_7 ⟨Nat.le_of_ble_eq_true rfl, Nat.le_of_ble_eq_true rfl⟩) hS (fun H locs hM hS => ?_)
  rw [← hQ]
  exact m_iret () hx hb hr rfl hlk hM hS (by first | rfl) (by first | decide | omega) (by first | decide | omega) dX9_at_10

abbrev rm_X9_isWith : Room := { frames := 1, cells := 0, slots := 0, locals := 20 }
set_option maxHeartbeats 400000 in
theorem k_X9_isWith (l : Launch) (g : GG) (A : Nat → Prop) (ad : Nat → Nat → Nat) (Mx : MM) (x : St) (b : Nat) (hbb : b < nt x 19 0) (hc20 : nt x 20 b < 25) (h : Nat) (hh : h < nt x 13 0) (hc14 : nt x 14 h < 25) : Met l yX9_isWith (ws_ yX9_isWith cX9_isWith 2 (some .boolean)) rm_X9_isWith (va_Pc [.ref (ad 8 b), .ref (ad 7 h)] (mPre g A (cwM g ad Mx x))) (pQi g A (cisW x b h) (cwM g ad Mx x)) 0 0 A := by
  refine m_start RX9 rfl (by decide) (Nat.le_of_ble_eq_true rfl) ?_
  intro p e s m args below meth c hcf hr hlk hnm hE hA H locs hM hS ls hl
  have hx := hcf.1
  have hb := hcf.2.1
  have hml := hcf.2.2.1
  have hown := hcf.2.2.2.1
  have hts := hcf.2.2.2.2
  have hl : lv_has ls 2 [(0, .ref (ad 8 b)), (1, .ref (ad 7 h))] := hl
  generalize hQ : MQ below (pQi g A (cisW x b h) (cwM g ad Mx x)) args s 0 0 A = Q
  refine lv_aload_n hx hb dX9_isWith_0 rfl (lv_at hl 0 rfl) ?_
  refine m_cFr (m_rF (As := []) (rest := []) hcf (k_X7_cell l g A ad Mx x b (by omega)) (va_cwF 0 hts (lw_F q605 q609 q611 q62 q613) rfl rfl rfl hE.X.2.2.2.1 (by decide +kernel) ⟨Nat.le_of_ble_eq_true rfl, Nat.le_of_ble_eq_true rfl⟩) hE hA hM hS 8 b (cw_8 (by omega)) (ci := 6) rfl rfl hl.1 rfl (Nat.le_of_ble_eq_true rfl) dX9_isWith_1 ⟨Nat.le_of_ble_eq_true rfl, Nat.le_of_ble_eq_true rfl⟩) hS (fun H locs hM hS => ?_)
  refine lv_aload_n hx hb dX9_isWith_6 rfl (lv_at hl 1 rfl) ?_
  refine m_cFr (m_rF (As := []) (rest := [.ref (ad 2 (nt x 20 b))]) hcf (k_X6_cell l g A ad Mx x h (by omega)) (va_cwF 0 hts (lw_F q605 q615 q617 q58 q619) rfl rfl rfl hE.X.2.2.1 (by decide +kernel) ⟨Nat.le_of_ble_eq_true rfl, Nat.le_of_ble_eq_true rfl⟩) hE hA hM hS 7 h (cw_7 (by omega)) (ci := 5) rfl rfl hl.1 rfl (Nat.le_of_ble_eq_true rfl) dX9_isWith_7 ⟨Nat.le_of_ble_eq_true rfl, Nat.le_of_ble_eq_true rfl⟩) hS (fun H locs hM hS => ?_)
  have J_6 : ∀ (v_4 : Int32), ((if (nt x 20 b) = (nt x 14 h) then 1 else 0) = v_4) → W p l e rm_X9_isWith s m args below meth c H locs 0 0 Q (F0 m 20 ls [.int v_4]) := by
    intro v_4 ev_5
    rw [← hQ]
    exact m_iret () hx hb hr (by subst ev_5; first | rfl | exact cisW_nar _ _ _) hlk hM hS (by subst ev_5; first | rfl | (unfold cisW; rfl)) (by first | decide | omega) (by first | decide | omega) dX9_isWith_20
  refine cc_acmp_ne hM (i := (nt x 20 b)) (j := (nt x 14 h)) (by omega) (by omega) (tgt := 19) hx hb dX9_isWith_12 (by decide) (fun c_3 => ?_) (fun c_3 => ?_)
  · refine lv_iconst (v := 0) hx hb dX9_isWith_19 (by decide) ?_
    exact J_6 _ (by first | (rw [if_neg c_3]) | rfl | (simp only [c_3, if_true, if_false, ite_true, ite_false, not_false_eq_true, reduceIte]))
  · refine lv_iconst (v := 1) hx hb dX9_isWith_15 (by decide) ?_
    refine lv_goto (tgt := 20) hx hb dX9_isWith_16 (by decide) ?_
    exact J_6 _ (by first | (rw [if_pos c_3]) | rfl | (simp only [c_3, if_true, if_false, ite_true, ite_false, not_false_eq_true, reduceIte]))

abbrev rm_X6_stand : Room := { frames := 2, cells := 0, slots := 0, locals := 41 }
set_option maxHeartbeats 400000 in
theorem k_X6_stand (l : Launch) (g : GG) (A : Nat → Prop) (ad : Nat → Nat → Nat) (Mx : MM) (x : St) (h : Nat) (hh : h < nt x 13 0) (hc14 : nt x 14 h < 25) (h15 : x.1 15 h = nI (nt x 15 h)) (h15b : nt x 15 h < 5) : Met l yX6_stand (ws_ yX6_stand cX6_stand 1 none) rm_X6_stand (va_Pc [.ref (ad 7 h)] (mPre g A (cwM g ad Mx x))) (pQv g A (cwM g ad Mx (cstF x h))) 0 0 A := by
  refine m_start RX6 rfl (by decide) (Nat.le_of_ble_eq_true rfl) ?_
  intro p e s m args below meth c hcf hr hlk hnm hE hA H locs hM hS ls hl
  have hx := hcf.1
  have hb := hcf.2.1
  have hml := hcf.2.2.1
  have hown := hcf.2.2.2.1
  have hts := hcf.2.2.2.2
  have hl : lv_has ls 1 [(0, .ref (ad 7 h))] := hl
  generalize hQ : MQ below (pQv g A (cwM g ad Mx (cstF x h))) args s 0 0 A = Q
  refine lv_aload_n hx hb dX6_stand_0 rfl (lv_at hl 0 rfl) ?_
  refine lv_dup hx hb dX6_stand_1 rfl ?_
  refine m_get hx hb hts in_X6 hown hE hM 7 h (cw_7 (by omega)) (ci := 5) rfl 4 (by decide) (hts _ q669) (fun _ h9 => h9) rfl dX6_stand_2 ?_
  refine lv_aload_n hx hb dX6_stand_5 rfl (lv_at hl 0 rfl) ?_
  refine lv_aload_n hx hb dX6_stand_6 rfl (lv_at hl 0 rfl) ?_
  refine m_get hx hb hts in_X6 hown hE hM 7 h (cw_7 (by omega)) (ci := 5) rfl 1 (by decide) (hts _ q663) (fun _ h9 => h9) rfl dX6_stand_7 ?_
  refine m_topI (y := nI (nt x 15 h)) (h15) ?_
  refine m_cpi (m_rD (As := [.int (nI (nt x 15 h))]) (rest := [.int (x.1 17 h), .ref (ad 7 h)]) (x := ⟨"Wakeground$House", "isThawedAt", "(I)Z"⟩) (owner := "Wakeground$Placed") hcf (k_X9_isThawedAt l g A ad Mx x h (by omega) (by omega) (nt x 15 h) (by omega)) 1 (hE.df hts _ (List.mem_of_getElem? (i := 0) rfl)) (hE.df hts _ (List.mem_of_getElem? (i := 1) rfl)) rfl (hE.dld 0 rfl) q601 q1206 (lw_meth q603) rfl (by decide +kernel) rfl rfl ⟨Nat.le_of_ble_eq_true rfl, Nat.le_of_ble_eq_true rfl⟩ hE hA hM hS 7 h (cw_7 (by omega)) (ci := 5) rfl rfl hl.1 rfl (Nat.le_of_ble_eq_true rfl) dX6_stand_10 ⟨Nat.le_of_ble_eq_true rfl, Nat.le_of_ble_eq_true rfl⟩) hS (fun H locs hM hS => ?_)
  have J_5 : ∀ (v_3 : Int32), ((if (cthF x (5 * nt x 14 h + (nt x 15 h))) = 0 then 0 else 1) = v_3) → W p l e rm_X6_stand s m args below meth c H locs 0 0 Q (F0 m 21 ls [.int v_3, .int (x.1 17 h), .ref (ad 7 h)]) := by
    intro v_3 ev_4
    refine lv_iadd hx hb dX6_stand_21 ?_
    refine ch_put hcf hE hM hS h (by omega) q669 ((x.1 17 h) + v_3) dX6_stand_22 (fun x_6 H locs ex_7 hM hS => ?_)
    rw [← hQ]
    exact m_vret () hx hb hr hlk (by have hF : x_6 = cstF x h := (by subst ex_7 ev_4; first | rfl | (unfold cstF; rfl)); rw [← hF]; exact hM) hS trivial (by first | decide | omega) (by first | decide | omega) dX6_stand_25
  refine lv_if_eq (tgt := 20) hx hb dX6_stand_13 (by decide) (fun c_2 => ?_) (fun c_2 => ?_)
  · refine lv_iconst (v := 0) hx hb dX6_stand_20 (by decide) ?_
    exact J_5 _ (by first | (rw [if_pos c_2]) | rfl | (simp only [c_2, if_true, if_false, ite_true, ite_false, not_false_eq_true, reduceIte]))
  · refine lv_iconst (v := 1) hx hb dX6_stand_16 (by decide) ?_
    refine lv_goto (tgt := 21) hx hb dX6_stand_17 (by decide) ?_
    exact J_5 _ (by first | (rw [if_neg c_2]) | rfl | (simp only [c_2, if_true, if_false, ite_true, ite_false, not_false_eq_true, reduceIte]))

abbrev rm_X7_has : Room := { frames := 0, cells := 0, slots := 0, locals := 0 }
set_option maxHeartbeats 400000 in
theorem k_X7_has (l : Launch) (g : GG) (A : Nat → Prop) (ad : Nat → Nat → Nat) (Mx : MM) (x : St) (b : Nat) (hbb : b < nt x 19 0) (a0 a1 : Int32) : Met l yX7_has (ws_ yX7_has cX7_has 3 (some .boolean)) rm_X7_has (va_Pc [.ref (ad 8 b), .int a0, .int a1] (mPre g A (cwM g ad Mx x))) (pQi g A (chasF x b a0 a1) (cwM g ad Mx x)) 0 0 A := by
  refine m_start RX7 rfl (by decide) (Nat.le_of_ble_eq_true rfl) ?_
  intro p e s m args below meth c hcf hr hlk hnm hE hA H locs hM hS ls hl
  have hx := hcf.1
  have hb := hcf.2.1
  have hml := hcf.2.2.1
  have hown := hcf.2.2.2.1
  have hts := hcf.2.2.2.2
  have hl : lv_has ls 3 [(0, .ref (ad 8 b)), (1, .int a0), (2, .int a1)] := hl
  generalize hQ : MQ below (pQi g A (chasF x b a0 a1) (cwM g ad Mx x)) args s 0 0 A = Q
  refine lv_iload_n hx hb dX7_has_0 rfl (lv_at hl 1 rfl) ?_
  refine lv_aload_n hx hb dX7_has_1 rfl (lv_at hl 0 rfl) ?_
  refine m_get hx hb hts in_X7 hown hE hM 8 b (cw_8 (by omega)) (ci := 6) rfl 2 (by decide) (hts _ q753) (fun _ h9 => h9) rfl dX7_has_2 ?_
  have J_5 : ∀ (v_3 : Int32), ((if a0 < (x.1 22 b) then 0 else (if a1 ≤ a0 then 0 else 1)) = v_3) → W p l e rm_X7_has s m args below meth c H locs 0 0 Q (F0 m 18 ls [.int v_3]) := by
    intro v_3 ev_4
    rw [← hQ]
    exact m_iret () hx hb hr (by subst ev_4; first | rfl | exact chasF_nar _ _ _ _) hlk hM hS (by subst ev_4; first | rfl | (unfold chasF; rfl)) (by first | decide | omega) (by first | decide | omega) dX7_has_18
  refine lv_icmp_lt (tgt := 17) hx hb dX7_has_5 (by decide) (fun c_1 => ?_) (fun c_1 => ?_)
  · refine lv_iconst (v := 0) hx hb dX7_has_17 (by decide) ?_
    exact J_5 _ (by first | (rw [if_pos c_1]) | rfl | (simp only [c_1, if_true, if_false, ite_true, ite_false, not_false_eq_true, reduceIte]))
  · refine lv_iload_n hx hb dX7_has_8 rfl (lv_at hl 1 rfl) ?_
    refine lv_iload_n hx hb dX7_has_9 rfl (lv_at hl 2 rfl) ?_
    refine lv_icmp_ge (tgt := 17) hx hb dX7_has_10 (by decide) (fun c_2 => ?_) (fun c_2 => ?_)
    · refine lv_iconst (v := 0) hx hb dX7_has_17 (by decide) ?_
      exact J_5 _ (by first | (rw [if_neg c_1, if_pos c_2]) | rfl | (simp only [c_1, c_2, if_true, if_false, ite_true, ite_false, not_false_eq_true, reduceIte]))
    · refine lv_iconst (v := 1) hx hb dX7_has_13 (by decide) ?_
      refine lv_goto (tgt := 18) hx hb dX7_has_14 (by decide) ?_
      exact J_5 _ (by first | (rw [if_neg c_1, if_neg c_2]) | rfl | (simp only [c_1, c_2, if_true, if_false, ite_true, ite_false, not_false_eq_true, reduceIte]))

abbrev rm_X7_told : Room := { frames := 0, cells := 0, slots := 0, locals := 0 }
set_option maxHeartbeats 400000 in
theorem k_X7_told (l : Launch) (g : GG) (A : Nat → Prop) (ad : Nat → Nat → Nat) (Mx : MM) (x : St) (b : Nat) (hbb : b < nt x 19 0) (mo n : Nat) (hmo : mo < 600) (hn : n < 5) : Met l yX7_told (ws_ yX7_told cX7_told 3 (some .int)) rm_X7_told (va_Pc [.ref (ad 8 b), .int (nI mo), .int (nI n)] (mPre g A (cwM g ad Mx x))) (pQi g A (x.1 23 (3000 * b + (5 * mo + n))) (cwM g ad Mx x)) 0 0 A := by
  refine m_start RX7 rfl (by decide) (Nat.le_of_ble_eq_true rfl) ?_
  intro p e s m args below meth c hcf hr hlk hnm hE hA H locs hM hS ls hl
  have hx := hcf.1
  have hb := hcf.2.1
  have hml := hcf.2.2.1
  have hown := hcf.2.2.2.1
  have hts := hcf.2.2.2.2
  have hl : lv_has ls 3 [(0, .ref (ad 8 b)), (1, .int (nI mo)), (2, .int (nI n))] := hl
  generalize hQ : MQ below (pQi g A (x.1 23 (3000 * b + (5 * mo + n))) (cwM g ad Mx x)) args s 0 0 A = Q
  refine lv_aload_n hx hb dX7_told_0 rfl (lv_at hl 0 rfl) ?_
  refine m_get hx hb hts in_X7 hown hE hM 8 b (cw_8 (by omega)) (ci := 6) rfl 3 (by decide) (hts _ q754) (fun _ h9 => h9) rfl dX7_told_1 ?_
  refine lv_iconst (v := 5) hx hb dX7_told_4 (by decide) ?_
  refine lv_iload_n hx hb dX7_told_5 rfl (lv_at hl 1 rfl) ?_
  refine lv_imul hx hb dX7_told_6 ?_
  refine m_topI (y := nI (5 * mo)) (pk_mul 5 mo) ?_
  refine lv_iload_n hx hb dX7_told_7 rfl (lv_at hl 2 rfl) ?_
  refine lv_iadd hx hb dX7_told_8 ?_
  refine m_topI (y := nI ((5 * mo) + n)) (nI_add (5 * mo) n) ?_
  refine cR_ld hcf hE hM b (by omega) ((5 * mo) + n) (by omega) rfl dX7_told_9 ?_
  rw [← hQ]
  exact m_iret () hx hb hr rfl hlk hM hS (by first | rfl) (by first | decide | omega) (by first | decide | omega) dX7_told_10

abbrev rm_X7_read : Room := { frames := 3, cells := 0, slots := 0, locals := 63 }
set_option maxHeartbeats 400000 in
theorem k_X7_read (l : Launch) (g : GG) (A : Nat → Prop) (ad : Nat → Nat → Nat) (Mx : MM) (x : St) (b : Nat) (hbb : b < nt x 19 0) (hc20 : nt x 20 b < 25) (mo : Nat) (hmo : mo < 600) : Met l yX7_read (ws_ yX7_read cX7_read 3 none) rm_X7_read (va_Pc [.ref (ad 8 b), .int (nI mo)] (mPre g A (cwM g ad Mx x))) (pQv g A (cwM g ad Mx (crdF x b mo))) 0 0 A := by
  refine m_start RX7 rfl (by decide) (Nat.le_of_ble_eq_true rfl) ?_
  intro p e s m args below meth c hcf hr hlk hnm hE hA H locs hM hS ls hl
  have hx := hcf.1
  have hb := hcf.2.1
  have hml := hcf.2.2.1
  have hown := hcf.2.2.2.1
  have hts := hcf.2.2.2.2
  have hl : lv_has ls 3 [(0, .ref (ad 8 b)), (1, .int (nI mo))] := hl
  generalize hQ : MQ below (pQv g A (cwM g ad Mx (crdF x b mo))) args s 0 0 A = Q
  refine lv_iconst (v := 0) hx hb dX7_read_0 (by decide) ?_
  refine lv_istore_n (lv' := [(2, .int 0), (0, .ref (ad 8 b)), (1, .int (nI mo))]) hx hb dX7_read_1 rfl hl (by decide) rfl (fun ls hl => ?_)
  have L_2 : ∀ (n9 i_2 : Nat), i_2 + n9 = 5 → ∀ (H : Heap) (locs : List Loc) (ls : Array Slot), mW g.1 A (cwM g ad Mx (crdL b mo x i_2)) H → va_S A s.heap H locs → lv_has ls 3 [(0, .ref (ad 8 b)), (1, .int (nI mo)), (2, .int (nI i_2))] → W p l e rm_X7_read s m args below meth c H locs 0 0 Q (F0 m 2 ls []) := by
    intro n9
    induction n9 with
    | zero =>
      intro i_2 hi H locs ls hM hS hl 
      have hi : 5 = i_2 := by omega
      subst hi
      obtain ⟨x_4, ex_5⟩ : ∃ z : St, crdL b mo x 5 = z := ⟨_, rfl⟩
      rw [ex_5] at hM
      refine lv_iload_n hx hb dX7_read_2 rfl (lv_at hl 2 rfl) ?_
      refine lv_iconst (v := 5) hx hb dX7_read_3 (by decide) ?_
      refine lv_icmp_ge (tgt := 45) hx hb dX7_read_4 (by decide) (fun _ => ?_) (fun c9 => absurd (by decide) c9)
      rw [← hQ]
      exact m_vret () hx hb hr hlk (by have hF : x_4 = crdF x b mo := (by subst ex_5; first | rfl); rw [← hF]; exact hM) hS trivial (by first | decide | omega) (by first | decide | omega) dX7_read_45
    | succ n9 ih =>
      intro i_2 hi H locs ls hM hS hl 
      have hlt_i_2 : i_2 < 5 := by omega
      obtain ⟨x_7, ex_8⟩ : ∃ z : St, crdL b mo x i_2 = z := ⟨_, rfl⟩
      rw [ex_8] at hM
      have hb9 : b < nt x_7 19 0 := by rw [← ex_8]; unfold nt; rw [crdL_o _ _ _ _ _ (by decide)]; exact hbb
      have hc9 : nt x_7 20 b < 25 := by rw [← ex_8]; unfold nt; rw [crdL_o _ _ _ _ _ (by decide)]; exact hc20
      refine lv_iload_n hx hb dX7_read_2 rfl (lv_at hl 2 rfl) ?_
      refine lv_iconst (v := 5) hx hb dX7_read_3 (by decide) ?_
      refine lv_icmp_ge (tgt := 45) hx hb dX7_read_4 (by decide) (fun c9 => absurd c9 (nI_ge (a := i_2) (b := 5) (by omega) (by decide))) (fun _ => ?_)
      refine lv_aload_n hx hb dX7_read_7 rfl (lv_at hl 0 rfl) ?_
      refine m_get hx hb hts in_X7 hown hE hM 8 b (cw_8 (by omega)) (ci := 6) rfl 3 (by decide) (hts _ q754) (fun _ h9 => h9) rfl dX7_read_8 ?_
      refine lv_iconst (v := 5) hx hb dX7_read_11 (by decide) ?_
      refine lv_iload_n hx hb dX7_read_12 rfl (lv_at hl 1 rfl) ?_
      refine lv_imul hx hb dX7_read_13 ?_
      refine m_topI (y := nI (5 * mo)) (pk_mul 5 mo) ?_
      refine lv_iload_n hx hb dX7_read_14 rfl (lv_at hl 2 rfl) ?_
      refine lv_iadd hx hb dX7_read_15 ?_
      refine m_topI (y := nI ((5 * mo) + i_2)) (nI_add (5 * mo) i_2) ?_
      refine lv_aload_n hx hb dX7_read_16 rfl (lv_at hl 0 rfl) ?_
      refine lv_iload_n hx hb dX7_read_17 rfl (lv_at hl 2 rfl) ?_
      refine m_cpi (m_rD (As := [.int (nI i_2)]) (rest := [.int (nI ((5 * mo) + i_2)), .ref (ad 9 b)]) (x := ⟨"Wakeground$Borehole", "at", "(I)I"⟩) (owner := "Wakeground$Placed") hcf (k_X9_at l g A ad Mx x_7 b (by omega) (by omega) i_2 (by omega)) 1 (hE.df hts _ (List.mem_of_getElem? (i := 2) rfl)) (hE.df hts _ (List.mem_of_getElem? (i := 3) rfl)) rfl (hE.dld 1 rfl) q632 q1206 (lw_meth q634) rfl (by decide +kernel) rfl rfl ⟨Nat.le_of_ble_eq_true rfl, Nat.le_of_ble_eq_true rfl⟩ hE hA hM hS 8 b (cw_8 (by omega)) (ci := 6) rfl rfl hl.1 rfl (Nat.le_of_ble_eq_true rfl) dX7_read_18 ⟨Nat.le_of_ble_eq_true rfl, Nat.le_of_ble_eq_true rfl⟩) hS (fun H locs hM hS => ?_)
      refine lv_aload_n hx hb dX7_read_21 rfl (lv_at hl 0 rfl) ?_
      refine m_get hx hb hts in_X7 hown hE hM 8 b (cw_8 (by omega)) (ci := 6) rfl 1 (by decide) (hts _ q752) (fun _ h9 => h9) rfl dX7_read_22 ?_
      refine lv_iload_n hx hb dX7_read_25 rfl (lv_at hl 1 rfl) ?_
      refine lv_aload_n hx hb dX7_read_26 rfl (lv_at hl 0 rfl) ?_
      refine m_get hx hb hts in_X7 hown hE hM 8 b (cw_8 (by omega)) (ci := 6) rfl 2 (by decide) (hts _ q753) (fun _ h9 => h9) rfl dX7_read_27 ?_
      refine lv_isub hx hb dX7_read_30 ?_
      refine lv_iconst (v := 1) hx hb dX7_read_31 (by decide) ?_
      refine lv_iadd hx hb dX7_read_32 ?_
      refine lv_imul hx hb dX7_read_33 ?_
      refine lv_bipush (v := 12) hx hb dX7_read_34 (by decide) ?_
      refine lv_idiv hx hb dX7_read_36 (by decide) ?_
      refine lv_iadd hx hb dX7_read_37 ?_
      refine cR_st hcf hE hM hS b (by omega) ((5 * mo) + i_2) (by omega) rfl dX7_read_38 (fun x_10 H locs ex_11 hM hS => ?_)
      refine lv_iinc (v := nI (i_2 + 1)) (lv' := [(2, .int (nI (i_2 + 1))), (0, .ref (ad 8 b)), (1, .int (nI mo))]) hx hb dX7_read_39 hl (k := 2) rfl (nI_add i_2 1) (by decide) rfl (fun ls hl => ?_)
      refine lv_goto (tgt := 2) hx hb dX7_read_42 (by decide) ?_
      exact ih (i_2 + 1) (by omega) H locs ls (by have hF : x_10 = crdL b mo x (i_2 + 1) := (by subst ex_11 ex_8; exact (crdL_s _ _ _ _).symm); rw [← hF]; exact hM) hS (lv_sub hl [1, 2, 0] (by subst ex_11 ex_8; rfl))
  exact L_2 (5) 0 (by omega) H locs ls hM hS (lv_sub hl [1, 2, 0] rfl)
