/-! objects being made: layers, houses, boreholes, claims, lists -/
set_option maxRecDepth 100000
theorem mUp_cm {M : MM} {a b c d j i : Nat} (h : ¬ (a = c ∧ b = d)) (p q : Nat × va_E) : mUp (mUp M c d q) a b p j i = mUp (mUp M a b p) c d q j i := by
  unfold mUp
  by_cases h1 : j = a ∧ i = b
  · have h2 : ¬ (j = c ∧ i = d) := fun q => h (by omega)
    rw [if_pos h1, if_neg h2, if_pos h1]
  · rw [if_neg h1, if_neg h1]
abbrev rm_X3_init : Room := { frames := 1, cells := 0, slots := 0, locals := 20 }
set_option maxHeartbeats 400000 in
theorem k_X3_init (l : Launch) (g : GG) (A : Nat → Prop) (M : MM) (kk nn q : Nat) : Met l yX3_init (ws_ yX3_init cX3_init 1 none) rm_X3_init (va_Pc [.ref q] (mPre g A (mUp M kk nn (q, .inr (3, [.int 0, .int 0, .int 0, .int 0]))))) (pQv g A (mUp M kk nn (q, .inr (3, [.int 5, .int 0, .int (-1000), .int 400])))) 0 0 A := by
  refine m_start RX3 rfl (by decide) (Nat.le_of_ble_eq_true rfl) ?_
  intro p e s m args below meth c hcf hr hlk hnm hE hA H locs hM hS ls hl
  have hx := hcf.1
  have hb := hcf.2.1
  have hml := hcf.2.2.1
  have hown := hcf.2.2.2.1
  have hts := hcf.2.2.2.2
  have hl : lv_has ls 1 [(0, .ref q)] := hl
  generalize hQ : MQ below (pQv g A (mUp M kk nn (q, .inr (3, [.int 5, .int 0, .int (-1000), .int 400])))) args s 0 0 A = Q
  refine lv_aload_n hx hb dX3_init_0 rfl (lv_at hl 0 rfl) ?_
  refine W.objInit hx hb hown (hts _ q112) (hts _ q71) (hts _ q72) rfl (by rw [hml]; exact hl.1) rfl dX3_init_1 (Nat.le_of_ble_eq_true rfl) (Nat.le_of_ble_eq_true rfl) ?_
  refine W.eq (g2 := F0 m 4 ls []) rfl ?_
  refine lv_aload_n hx hb dX3_init_4 rfl (lv_at hl 0 rfl) ?_
  refine lv_iconst (v := 5) hx hb dX3_init_5 (by decide) ?_
  refine m_put hx hb hts in_X3 tyX3 tyX3_ok nmX3 hown hE hM hS kk nn (mUp_self _ _ _ _) (ci := 3) rfl 0 (by decide) (hts _ q113) (fun _ h9 => h9) rfl (ty := .int) rfl rfl rfl (Nat.le_of_ble_eq_true rfl) (M' := mUp M kk nn (q, .inr (3, [.int 5, .int 0, .int 0, .int 0]))) (mUp_self _ _ _ _) (fun j i h9 => (mUp_ne _ _ h9).trans (mUp_ne _ _ h9).symm) dX3_init_6 (fun H locs hM hS => ?_)
  refine lv_aload_n hx hb dX3_init_9 rfl (lv_at hl 0 rfl) ?_
  refine lv_sipush (v := (-1000)) hx hb dX3_init_10 (by decide) ?_
  refine m_put hx hb hts in_X3 tyX3 tyX3_ok nmX3 hown hE hM hS kk nn (mUp_self _ _ _ _) (ci := 3) rfl 2 (by decide) (hts _ q118) (fun _ h9 => h9) rfl (ty := .int) rfl rfl rfl (Nat.le_of_ble_eq_true rfl) (M' := mUp M kk nn (q, .inr (3, [.int 5, .int 0, .int (-1000), .int 0]))) (mUp_self _ _ _ _) (fun j i h9 => (mUp_ne _ _ h9).trans (mUp_ne _ _ h9).symm) dX3_init_13 (fun H locs hM hS => ?_)
  refine lv_aload_n hx hb dX3_init_16 rfl (lv_at hl 0 rfl) ?_
  refine lv_sipush (v := 400) hx hb dX3_init_17 (by decide) ?_
  refine m_put hx hb hts in_X3 tyX3 tyX3_ok nmX3 hown hE hM hS kk nn (mUp_self _ _ _ _) (ci := 3) rfl 3 (by decide) (hts _ q121) (fun _ h9 => h9) rfl (ty := .int) rfl rfl rfl (Nat.le_of_ble_eq_true rfl) (M' := mUp M kk nn (q, .inr (3, [.int 5, .int 0, .int (-1000), .int 400]))) (mUp_self _ _ _ _) (fun j i h9 => (mUp_ne _ _ h9).trans (mUp_ne _ _ h9).symm) dX3_init_20 (fun H locs hM hS => ?_)
  rw [← hQ]
  exact m_vret () hx hb hr hlk hM hS trivial (by first | decide | omega) (by first | decide | omega) dX3_init_23

abbrev rm_X6_init : Room := { frames := 1, cells := 0, slots := 0, locals := 20 }
set_option maxHeartbeats 400000 in
theorem k_X6_init (l : Launch) (g : GG) (A : Nat → Prop) (M : MM) (kk nn q : Nat) (ce : Nat) (a2 a3 a4 : Int32) (hz9 : narrow .boolean (.int a3) = .int a3) (hz8 : fits .boolean (.int a3) = true) : Met l yX6_init (ws_ yX6_init cX6_init 5 none) rm_X6_init (va_Pc [.ref q, .ref ce, .int a2, .int a3, .int a4] (mPre g A (mUp M kk nn (q, .inr (5, [.null, .int 0, .int 0, .int 0, .int 0]))))) (pQv g A (mUp M kk nn (q, .inr (5, [.ref ce, .int a2, .int a3, .int a4, .int 0])))) 0 0 A := by
  refine m_start RX6 rfl (by decide) (Nat.le_of_ble_eq_true rfl) ?_
  intro p e s m args below meth c hcf hr hlk hnm hE hA H locs hM hS ls hl
  have hx := hcf.1
  have hb := hcf.2.1
  have hml := hcf.2.2.1
  have hown := hcf.2.2.2.1
  have hts := hcf.2.2.2.2
  have hl : lv_has ls 5 [(0, .ref q), (1, .ref ce), (2, .int a2), (3, .int a3), (4, .int a4)] := hl
  generalize hQ : MQ below (pQv g A (mUp M kk nn (q, .inr (5, [.ref ce, .int a2, .int a3, .int a4, .int 0])))) args s 0 0 A = Q
  refine lv_aload_n hx hb dX6_init_0 rfl (lv_at hl 0 rfl) ?_
  refine W.objInit hx hb hown (hts _ q661) (hts _ q71) (hts _ q72) rfl (by rw [hml]; exact hl.1) rfl dX6_init_1 (Nat.le_of_ble_eq_true rfl) (Nat.le_of_ble_eq_true rfl) ?_
  refine W.eq (g2 := F0 m 4 ls []) rfl ?_
  refine lv_aload_n hx hb dX6_init_4 rfl (lv_at hl 0 rfl) ?_
  refine lv_aload_n hx hb dX6_init_5 rfl (lv_at hl 1 rfl) ?_
  refine m_putF hx hb hts in_X6 tyX6 tyX6_ok nmX6 hown hE hM hS kk nn (mUp_self _ _ _ _) (ci := 5) rfl 0 (by decide) (hts _ q662) (fun _ h9 => h9) rfl hnm rfl (ty := .object "Wakeground$Cell") rfl rfl rfl (Nat.le_of_ble_eq_true rfl) (M' := mUp M kk nn (q, .inr (5, [.ref ce, .int 0, .int 0, .int 0, .int 0]))) (mUp_self _ _ _ _) (fun j i h9 => (mUp_ne _ _ h9).trans (mUp_ne _ _ h9).symm) dX6_init_6 (fun H locs hM hS => ?_)
  refine lv_aload_n hx hb dX6_init_9 rfl (lv_at hl 0 rfl) ?_
  refine lv_iload_n hx hb dX6_init_10 rfl (lv_at hl 2 rfl) ?_
  refine m_putF hx hb hts in_X6 tyX6 tyX6_ok nmX6 hown hE hM hS kk nn (mUp_self _ _ _ _) (ci := 5) rfl 1 (by decide) (hts _ q663) (fun _ h9 => h9) rfl hnm rfl (ty := .int) rfl rfl rfl (Nat.le_of_ble_eq_true rfl) (M' := mUp M kk nn (q, .inr (5, [.ref ce, .int a2, .int 0, .int 0, .int 0]))) (mUp_self _ _ _ _) (fun j i h9 => (mUp_ne _ _ h9).trans (mUp_ne _ _ h9).symm) dX6_init_11 (fun H locs hM hS => ?_)
  refine lv_aload_n hx hb dX6_init_14 rfl (lv_at hl 0 rfl) ?_
  refine lv_iload_n hx hb dX6_init_15 rfl (lv_at hl 3 rfl) ?_
  refine m_putF hx hb hts in_X6 tyX6 tyX6_ok nmX6 hown hE hM hS kk nn (mUp_self _ _ _ _) (ci := 5) rfl 2 (by decide) (hts _ q665) (fun _ h9 => h9) rfl hnm rfl (ty := .boolean) rfl hz9 hz8 (Nat.le_of_ble_eq_true rfl) (M' := mUp M kk nn (q, .inr (5, [.ref ce, .int a2, .int a3, .int 0, .int 0]))) (mUp_self _ _ _ _) (fun j i h9 => (mUp_ne _ _ h9).trans (mUp_ne _ _ h9).symm) dX6_init_16 (fun H locs hM hS => ?_)
  refine lv_aload_n hx hb dX6_init_19 rfl (lv_at hl 0 rfl) ?_
  refine lv_iload hx hb dX6_init_20 (lv_at hl 4 rfl) ?_
  refine m_putF hx hb hts in_X6 tyX6 tyX6_ok nmX6 hown hE hM hS kk nn (mUp_self _ _ _ _) (ci := 5) rfl 3 (by decide) (hts _ q666) (fun _ h9 => h9) rfl hnm rfl (ty := .int) rfl rfl rfl (Nat.le_of_ble_eq_true rfl) (M' := mUp M kk nn (q, .inr (5, [.ref ce, .int a2, .int a3, .int a4, .int 0]))) (mUp_self _ _ _ _) (fun j i h9 => (mUp_ne _ _ h9).trans (mUp_ne _ _ h9).symm) dX6_init_22 (fun H locs hM hS => ?_)
  rw [← hQ]
  exact m_vret () hx hb hr hlk hM hS trivial (by first | decide | omega) (by first | decide | omega) dX6_init_25

abbrev rm_J0_init : Room := { frames := 1, cells := 0, slots := 0, locals := 20 }
set_option maxHeartbeats 400000 in
theorem k_J0_init (l : Launch) (g : GG) (A : Nat → Prop) (M : MM) (kk nn q : Nat) : Met l yJ0_init (ws_ yJ0_init cJ0_init 1 none) rm_J0_init (va_Pc [.ref q] (mPre g A (mUp M kk nn (q, .inr (8, [.int 0, .null, .int 0]))))) (pQv g A (mUp M kk nn (q, .inr (8, [.int 0, .null, .int 0])))) 0 0 A := by
  refine m_start RJ0 rfl (by decide) (Nat.le_of_ble_eq_true rfl) ?_
  intro p e s m args below meth c hcf hr hlk hnm hE hA H locs hM hS ls hl
  have hx := hcf.1
  have hb := hcf.2.1
  have hml := hcf.2.2.1
  have hown := hcf.2.2.2.1
  have hts := hcf.2.2.2.2
  have hl : lv_has ls 1 [(0, .ref q)] := hl
  generalize hQ : MQ below (pQv g A (mUp M kk nn (q, .inr (8, [.int 0, .null, .int 0])))) args s 0 0 A = Q
  refine lv_aload_n hx hb dJ0_init_0 rfl (lv_at hl 0 rfl) ?_
  refine W.objInit hx hb hown (hts _ q86) (hts _ q71) (hts _ q72) rfl (by rw [hml]; exact hl.1) rfl dJ0_init_1 (Nat.le_of_ble_eq_true rfl) (Nat.le_of_ble_eq_true rfl) ?_
  refine W.eq (g2 := F0 m 4 ls []) rfl ?_
  rw [← hQ]
  exact m_vret () hx hb hr hlk hM hS trivial (by first | decide | omega) (by first | decide | omega) dJ0_init_4

abbrev rm_J1_init : Room := { frames := 2, cells := 0, slots := 0, locals := 40 }
set_option maxHeartbeats 400000 in
theorem k_J1_init (l : Launch) (g : GG) (A : Nat → Prop) (M : MM) (kk nn q : Nat) : Met l yJ1_init (ws_ yJ1_init cJ1_init 1 none) rm_J1_init (va_Pc [.ref q] (mPre g A (mUp M kk nn (q, .inr (8, [.int 0, .null, .int 0]))))) (pQv g A (mUp M kk nn (q, .inr (8, [.int 0, .null, .int 0])))) 0 0 A := by
  refine m_start RJ1 rfl (by decide) (Nat.le_of_ble_eq_true rfl) ?_
  intro p e s m args below meth c hcf hr hlk hnm hE hA H locs hM hS ls hl
  have hx := hcf.1
  have hb := hcf.2.1
  have hml := hcf.2.2.1
  have hown := hcf.2.2.2.1
  have hts := hcf.2.2.2.2
  have hl : lv_has ls 1 [(0, .ref q)] := hl
  generalize hQ : MQ below (pQv g A (mUp M kk nn (q, .inr (8, [.int 0, .null, .int 0])))) args s 0 0 A = Q
  refine lv_aload_n hx hb dJ1_init_0 rfl (lv_at hl 0 rfl) ?_
  refine m_cpv (m_rI (As := []) (rest := []) hcf (k_J0_init l g A M kk nn q) (cwI 0 hts (lw_meth q85) rfl rfl rfl (hts _ q36) (hts _ q83) (hts _ q84) rfl (by decide +kernel) ⟨Nat.le_of_ble_eq_true rfl, Nat.le_of_ble_eq_true rfl⟩) hE hA hM hS rfl hl.1 rfl (Nat.le_of_ble_eq_true rfl) dJ1_init_1 ⟨Nat.le_of_ble_eq_true rfl, Nat.le_of_ble_eq_true rfl⟩) hS (fun H locs hM hS => ?_)
  refine lv_aload_n hx hb dJ1_init_4 rfl (lv_at hl 0 rfl) ?_
  refine lv_iconst (v := 0) hx hb dJ1_init_5 (by decide) ?_
  refine m_put hx hb hts in_J2 tyJ2 tyJ2_ok nmJ2 hown hE hM hS kk nn (mUp_self _ _ _ _) (ci := 8) rfl 0 (by decide) (hts _ q91) (fun _ h9 => h9) rfl (ty := .int) rfl rfl rfl (Nat.le_of_ble_eq_true rfl) (M' := mUp M kk nn (q, .inr (8, [.int 0, .null, .int 0]))) (mUp_self _ _ _ _) (fun j i h9 => (mUp_ne _ _ h9).trans (mUp_ne _ _ h9).symm) dJ1_init_6 (fun H locs hM hS => ?_)
  rw [← hQ]
  exact m_vret () hx hb hr hlk hM hS trivial (by first | decide | omega) (by first | decide | omega) dJ1_init_9

abbrev rm_J2_init : Room := { frames := 3, cells := 0, slots := 0, locals := 60 }
set_option maxHeartbeats 400000 in
theorem k_J2_init (l : Launch) (g : GG) (A : Nat → Prop) (M : MM) (kk nn q : Nat) : Met l yJ2_init (ws_ yJ2_init cJ2_init 1 none) rm_J2_init (va_Pc [.ref q] (mPre g A (mUp M kk nn (q, .inr (8, [.int 0, .null, .int 0]))))) (pQv g A (mUp M kk nn (q, .inr (8, [.int 0, .ref (g.2.2.2 3), .int 0])))) 0 0 A := by
  refine m_start RJ2 rfl (by decide) (Nat.le_of_ble_eq_true rfl) ?_
  intro p e s m args below meth c hcf hr hlk hnm hE hA H locs hM hS ls hl
  have hx := hcf.1
  have hb := hcf.2.1
  have hml := hcf.2.2.1
  have hown := hcf.2.2.2.1
  have hts := hcf.2.2.2.2
  have hl : lv_has ls 1 [(0, .ref q)] := hl
  generalize hQ : MQ below (pQv g A (mUp M kk nn (q, .inr (8, [.int 0, .ref (g.2.2.2 3), .int 0])))) args s 0 0 A = Q
  refine lv_aload_n hx hb dJ2_init_0 rfl (lv_at hl 0 rfl) ?_
  refine m_cpv (m_rI (As := []) (rest := []) hcf (k_J1_init l g A M kk nn q) (cwI 0 hts (lw_meth q82) rfl rfl rfl (hts _ q37) (hts _ q80) (hts _ q81) rfl (by decide +kernel) ⟨Nat.le_of_ble_eq_true rfl, Nat.le_of_ble_eq_true rfl⟩) hE hA hM hS rfl hl.1 rfl (Nat.le_of_ble_eq_true rfl) dJ2_init_1 ⟨Nat.le_of_ble_eq_true rfl, Nat.le_of_ble_eq_true rfl⟩) hS (fun H locs hM hS => ?_)
  refine lv_aload_n hx hb dJ2_init_4 rfl (lv_at hl 0 rfl) ?_
  refine va_gets hx hb hE.2.1.2.2.2.2.2.2.2.2.1 hS hown (hts _ q87) (fun _ h9 => h9) dJ2_init_5 ?_
  refine m_put hx hb hts in_J2 tyJ2 tyJ2_ok nmJ2 hown hE hM hS kk nn (mUp_self _ _ _ _) (ci := 8) rfl 1 (by decide) (hts _ q89) (fun _ h9 => h9) rfl (ty := .array (.object "java/lang/Object")) rfl rfl rfl (Nat.le_of_ble_eq_true rfl) (M' := mUp M kk nn (q, .inr (8, [.int 0, .ref (g.2.2.2 3), .int 0]))) (mUp_self _ _ _ _) (fun j i h9 => (mUp_ne _ _ h9).trans (mUp_ne _ _ h9).symm) dJ2_init_8 (fun H locs hM hS => ?_)
  rw [← hQ]
  exact m_vret () hx hb hr hlk hM hS trivial (by first | decide | omega) (by first | decide | omega) dJ2_init_11

abbrev rm_X7_init : Room := { frames := 1, cells := 1, slots := 3000, locals := 20 }
set_option maxHeartbeats 400000 in
theorem k_X7_init (l : Launch) (g : GG) (A : Nat → Prop) (M : MM) (q : Nat) (ce : Nat) (a2 a3 : Int32) (hM13 : M 13 0 = none) : Met l yX7_init (ws_ yX7_init cX7_init 4 none) rm_X7_init (va_Pc [.ref q, .ref ce, .int a2, .int a3] (mPre g A (mUp M 12 0 (q, .inr (6, [.null, .int 0, .int 0, .null]))))) (va_Qv (fun (_ : Nat) => True) (fun ra t => mW g.1 A (mUp (mUp M 13 0 (ra, .inl (g.2.1 0, 3000, .inl (fun _ => 0)))) 12 0 (q, .inr (6, [.ref ce, .int a2, .int a3, .ref ra]))) t.heap) A) 1 3000 A := by
  refine m_start RX7 rfl (by decide) (Nat.le_of_ble_eq_true rfl) ?_
  intro p e s m args below meth c hcf hr hlk hnm hE hA H locs hM hS ls hl
  have hx := hcf.1
  have hb := hcf.2.1
  have hml := hcf.2.2.1
  have hown := hcf.2.2.2.1
  have hts := hcf.2.2.2.2
  have hl : lv_has ls 4 [(0, .ref q), (1, .ref ce), (2, .int a2), (3, .int a3)] := hl
  generalize hQ : MQ below (va_Qv (fun (_ : Nat) => True) (fun ra t => mW g.1 A (mUp (mUp M 13 0 (ra, .inl (g.2.1 0, 3000, .inl (fun _ => 0)))) 12 0 (q, .inr (6, [.ref ce, .int a2, .int a3, .ref ra]))) t.heap) A) args s 1 3000 A = Q
  refine lv_aload_n hx hb dX7_init_0 rfl (lv_at hl 0 rfl) ?_
  refine W.objInit hx hb hown (hts _ q750) (hts _ q71) (hts _ q72) rfl (by rw [hml]; exact hl.1) rfl dX7_init_1 (Nat.le_of_ble_eq_true rfl) (Nat.le_of_ble_eq_true rfl) ?_
  refine W.eq (g2 := F0 m 4 ls []) rfl ?_
  refine lv_aload_n hx hb dX7_init_4 rfl (lv_at hl 0 rfl) ?_
  refine lv_sipush (v := 3000) hx hb dX7_init_5 (by decide) ?_
  refine m_newa (atype := .int) hx hb (hts _ q135) rfl hE hM hS hA 13 0 (by rw [mUp_ne _ _ (by decide)]; exact hM13) 0 rfl (by intro C h; cases h) (n := 3000) 3000 (a0 := (3000, .inl (fun _ => 0))) rfl (by decide) (by decide) (Nat.le_of_ble_eq_true rfl) (Nat.le_of_ble_eq_true rfl) (Nat.le_of_ble_eq_true rfl) dX7_init_8 (fun ra H hra hM hS => ?_)
  have hM := hM.congr (M' := mUp (mUp M 13 0 (ra, .inl (g.2.1 0, 3000, .inl (fun _ => 0)))) 12 0 (q, .inr (6, [.null, .int 0, .int 0, .null]))) (fun j i => mUp_cm (by decide) _ _)
  refine m_putF hx hb hts in_X7 tyX7 tyX7_ok nmX7 hown hE hM hS 12 0 (mUp_self _ _ _ _) (ci := 6) rfl 3 (by decide) (hts _ q754) (fun _ h9 => h9) rfl hnm rfl (ty := .array (.int)) rfl rfl rfl (Nat.le_of_ble_eq_true rfl) (M' := mUp (mUp M 13 0 (ra, .inl (g.2.1 0, 3000, .inl (fun _ => 0)))) 12 0 (q, .inr (6, [.null, .int 0, .int 0, .ref ra]))) (mUp_self _ _ _ _) (fun j i h9 => (mUp_ne _ _ h9).trans (mUp_ne _ _ h9).symm) dX7_init_10 (fun H locs hM hS => ?_)
  refine lv_aload_n hx hb dX7_init_13 rfl (lv_at hl 0 rfl) ?_
  refine lv_aload_n hx hb dX7_init_14 rfl (lv_at hl 1 rfl) ?_
  refine m_putF hx hb hts in_X7 tyX7 tyX7_ok nmX7 hown hE hM hS 12 0 (mUp_self _ _ _ _) (ci := 6) rfl 0 (by decide) (hts _ q751) (fun _ h9 => h9) rfl hnm rfl (ty := .object "Wakeground$Cell") rfl rfl rfl (Nat.le_of_ble_eq_true rfl) (M' := mUp (mUp M 13 0 (ra, .inl (g.2.1 0, 3000, .inl (fun _ => 0)))) 12 0 (q, .inr (6, [.ref ce, .int 0, .int 0, .ref ra]))) (mUp_self _ _ _ _) (fun j i h9 => (mUp_ne _ _ h9).trans (mUp_ne _ _ h9).symm) dX7_init_15 (fun H locs hM hS => ?_)
  refine lv_aload_n hx hb dX7_init_18 rfl (lv_at hl 0 rfl) ?_
  refine lv_iload_n hx hb dX7_init_19 rfl (lv_at hl 2 rfl) ?_
  refine m_putF hx hb hts in_X7 tyX7 tyX7_ok nmX7 hown hE hM hS 12 0 (mUp_self _ _ _ _) (ci := 6) rfl 1 (by decide) (hts _ q752) (fun _ h9 => h9) rfl hnm rfl (ty := .int) rfl rfl rfl (Nat.le_of_ble_eq_true rfl) (M' := mUp (mUp M 13 0 (ra, .inl (g.2.1 0, 3000, .inl (fun _ => 0)))) 12 0 (q, .inr (6, [.ref ce, .int a2, .int 0, .ref ra]))) (mUp_self _ _ _ _) (fun j i h9 => (mUp_ne _ _ h9).trans (mUp_ne _ _ h9).symm) dX7_init_20 (fun H locs hM hS => ?_)
  refine lv_aload_n hx hb dX7_init_23 rfl (lv_at hl 0 rfl) ?_
  refine lv_iload_n hx hb dX7_init_24 rfl (lv_at hl 3 rfl) ?_
  refine m_putF hx hb hts in_X7 tyX7 tyX7_ok nmX7 hown hE hM hS 12 0 (mUp_self _ _ _ _) (ci := 6) rfl 2 (by decide) (hts _ q753) (fun _ h9 => h9) rfl hnm rfl (ty := .int) rfl rfl rfl (Nat.le_of_ble_eq_true rfl) (M' := mUp (mUp M 13 0 (ra, .inl (g.2.1 0, 3000, .inl (fun _ => 0)))) 12 0 (q, .inr (6, [.ref ce, .int a2, .int a3, .ref ra]))) (mUp_self _ _ _ _) (fun j i h9 => (mUp_ne _ _ h9).trans (mUp_ne _ _ h9).symm) dX7_init_25 (fun H locs hM hS => ?_)
  rw [← hQ]
  exact m_vret ra hx hb hr hlk hM hS trivial (by first | decide | omega) (by first | decide | omega) dX7_init_28

abbrev rm_X8_init : Room := { frames := 1, cells := 0, slots := 0, locals := 20 }
set_option maxHeartbeats 400000 in
theorem k_X8_init (l : Launch) (g : GG) (A : Nat → Prop) (ad : Nat → Nat → Nat) (Mx : MM) (x : St) (q h : Nat) (hh : h < nt x 13 0) (a2 a3 : Int32) : Met l yX8_init (ws_ yX8_init cX8_init 4 none) rm_X8_init (va_Pc [.ref q, .ref (ad 7 h), .int a2, .int a3] (mPre g A (mUp (cwM g ad Mx x) 12 0 (q, .inr (7, [.null, .int 0, .int 0, .int 0]))))) (pQv g A (mUp (cwM g ad Mx x) 12 0 (q, .inr (7, [.ref (ad 7 h), .int (x.1 17 h), .int a2, .int a3])))) 0 0 A := by
  refine m_start RX8 rfl (by decide) (Nat.le_of_ble_eq_true rfl) ?_
  intro p e s m args below meth c hcf hr hlk hnm hE hA H locs hM hS ls hl
  have hx := hcf.1
  have hb := hcf.2.1
  have hml := hcf.2.2.1
  have hown := hcf.2.2.2.1
  have hts := hcf.2.2.2.2
  have hl : lv_has ls 4 [(0, .ref q), (1, .ref (ad 7 h)), (2, .int a2), (3, .int a3)] := hl
  generalize hQ : MQ below (pQv g A (mUp (cwM g ad Mx x) 12 0 (q, .inr (7, [.ref (ad 7 h), .int (x.1 17 h), .int a2, .int a3])))) args s 0 0 A = Q
  refine lv_aload_n hx hb dX8_init_0 rfl (lv_at hl 0 rfl) ?_
  refine W.objInit hx hb hown (hts _ q796) (hts _ q71) (hts _ q72) rfl (by rw [hml]; exact hl.1) rfl dX8_init_1 (Nat.le_of_ble_eq_true rfl) (Nat.le_of_ble_eq_true rfl) ?_
  refine W.eq (g2 := F0 m 4 ls []) rfl ?_
  refine lv_aload_n hx hb dX8_init_4 rfl (lv_at hl 0 rfl) ?_
  refine lv_aload_n hx hb dX8_init_5 rfl (lv_at hl 1 rfl) ?_
  refine m_putF hx hb hts in_X8 tyX8 tyX8_ok nmX8 hown hE hM hS 12 0 (mUp_self _ _ _ _) (ci := 7) rfl 0 (by decide) (hts _ q797) (fun _ h9 => h9) rfl hnm rfl (ty := .object "Wakeground$House") rfl rfl rfl (Nat.le_of_ble_eq_true rfl) (M' := mUp (cwM g ad Mx x) 12 0 (q, .inr (7, [.ref (ad 7 h), .int 0, .int 0, .int 0]))) (mUp_self _ _ _ _) (fun j i h9 => (mUp_ne _ _ h9).trans (mUp_ne _ _ h9).symm) dX8_init_6 (fun H locs hM hS => ?_)
  refine lv_aload_n hx hb dX8_init_9 rfl (lv_at hl 0 rfl) ?_
  refine lv_iload_n hx hb dX8_init_10 rfl (lv_at hl 2 rfl) ?_
  refine m_putF hx hb hts in_X8 tyX8 tyX8_ok nmX8 hown hE hM hS 12 0 (mUp_self _ _ _ _) (ci := 7) rfl 2 (by decide) (hts _ q801) (fun _ h9 => h9) rfl hnm rfl (ty := .int) rfl rfl rfl (Nat.le_of_ble_eq_true rfl) (M' := mUp (cwM g ad Mx x) 12 0 (q, .inr (7, [.ref (ad 7 h), .int 0, .int a2, .int 0]))) (mUp_self _ _ _ _) (fun j i h9 => (mUp_ne _ _ h9).trans (mUp_ne _ _ h9).symm) dX8_init_11 (fun H locs hM hS => ?_)
  refine lv_aload_n hx hb dX8_init_14 rfl (lv_at hl 0 rfl) ?_
  refine lv_iload_n hx hb dX8_init_15 rfl (lv_at hl 3 rfl) ?_
  refine m_putF hx hb hts in_X8 tyX8 tyX8_ok nmX8 hown hE hM hS 12 0 (mUp_self _ _ _ _) (ci := 7) rfl 3 (by decide) (hts _ q803) (fun _ h9 => h9) rfl hnm rfl (ty := .int) rfl rfl rfl (Nat.le_of_ble_eq_true rfl) (M' := mUp (cwM g ad Mx x) 12 0 (q, .inr (7, [.ref (ad 7 h), .int 0, .int a2, .int a3]))) (mUp_self _ _ _ _) (fun j i h9 => (mUp_ne _ _ h9).trans (mUp_ne _ _ h9).symm) dX8_init_16 (fun H locs hM hS => ?_)
  refine lv_aload_n hx hb dX8_init_19 rfl (lv_at hl 0 rfl) ?_
  refine lv_aload_n hx hb dX8_init_20 rfl (lv_at hl 1 rfl) ?_
  refine m_get hx hb hts in_X6 hown hE hM 7 h (by rw [mUp_ne _ _ (by omega)]; exact cw_7 hh) (ci := 5) rfl 4 (by decide) (hts _ q668) (fun _ h9 => h9) rfl dX8_init_21 ?_
  refine m_putF hx hb hts in_X8 tyX8 tyX8_ok nmX8 hown hE hM hS 12 0 (mUp_self _ _ _ _) (ci := 7) rfl 1 (by decide) (hts _ q799) (fun _ h9 => h9) rfl hnm rfl (ty := .int) rfl rfl rfl (Nat.le_of_ble_eq_true rfl) (M' := mUp (cwM g ad Mx x) 12 0 (q, .inr (7, [.ref (ad 7 h), .int (x.1 17 h), .int a2, .int a3]))) (mUp_self _ _ _ _) (fun j i h9 => (mUp_ne _ _ h9).trans (mUp_ne _ _ h9).symm) dX8_init_24 (fun H locs hM hS => ?_)
  rw [← hQ]
  exact m_vret () hx hb hr hlk hM hS trivial (by first | decide | omega) (by first | decide | omega) dX8_init_27
