/-! the class's iterator, boxes -/
set_option maxRecDepth 100000
abbrev rm_X5_isOn : Room := { frames := 0, cells := 0, slots := 0, locals := 0 }
set_option maxHeartbeats 400000 in
theorem k_X5_isOn (l : Launch) (g : GG) (A : Nat → Prop) (M : MM) (q k n : Nat) (hk : k < 25) (hn : n < 4) : Met l yX5_isOn (ws_ yX5_isOn cX5_isOn 3 (some .boolean)) rm_X5_isOn (va_Pc [.ref q] (mPre g A (mAr M q k n))) (pQi g A (onR k n) (mAr M q k n)) 0 0 A := by
  refine m_start RX5 rfl (by decide) (Nat.le_of_ble_eq_true rfl) ?_
  intro p e s m args below meth c hcf hr hlk hnm hE hA H locs hM hS ls hl
  have hx := hcf.1
  have hb := hcf.2.1
  have hml := hcf.2.2.1
  have hown := hcf.2.2.2.1
  have hts := hcf.2.2.2.2
  have hl : lv_has ls 3 [(0, .ref q)] := hl
  generalize hQ : MQ below (pQi g A (onR k n) (mAr M q k n)) args s 0 0 A = Q
  refine lv_aload_n hx hb dX5_isOn_0 rfl (lv_at hl 0 rfl) ?_
  refine ar_get hcf hE hM 0 (by decide) q245 rfl rfl dX5_isOn_1 ?_
  refine lv_iconst (v := 5) hx hb dX5_isOn_4 (by decide) ?_
  refine lv_idiv hx hb dX5_isOn_5 (by decide) ?_
  refine m_topI (y := nI (k / 5)) (pk_div (by omega) (by decide) (by decide)) ?_
  refine ar_row hcf hE hS dX5_isOn_6 ?_
  refine lv_aload_n hx hb dX5_isOn_9 rfl (lv_at hl 0 rfl) ?_
  refine ar_get hcf hE hM 1 (by decide) q246 rfl rfl dX5_isOn_10 ?_
  refine ar_rowT hcf hE hS (by omega) dX5_isOn_13 ?_
  refine lv_iadd hx hb dX5_isOn_14 ?_
  refine lv_istore_n (lv' := [(1, .int ((nI (k / 5)) + (arR n))), (0, .ref q)]) hx hb dX5_isOn_15 rfl hl (by decide) rfl (fun ls hl => ?_)
  refine lv_aload_n hx hb dX5_isOn_16 rfl (lv_at hl 1 rfl) ?_
  refine ar_get hcf hE hM 0 (by decide) q245 rfl rfl dX5_isOn_17 ?_
  refine lv_iconst (v := 5) hx hb dX5_isOn_20 (by decide) ?_
  refine lv_irem hx hb dX5_isOn_21 (by decide) ?_
  refine m_topI (y := nI (k % 5)) (pk_rem (by omega) (by decide) (by decide)) ?_
  refine ar_col hcf hE hS dX5_isOn_22 ?_
  refine lv_aload_n hx hb dX5_isOn_25 rfl (lv_at hl 1 rfl) ?_
  refine ar_get hcf hE hM 1 (by decide) q246 rfl rfl dX5_isOn_26 ?_
  refine ar_colT hcf hE hS (by omega) dX5_isOn_29 ?_
  refine lv_iadd hx hb dX5_isOn_30 ?_
  refine lv_istore_n (lv' := [(2, .int ((nI (k % 5)) + (arC n))), (1, .int ((nI (k / 5)) + (arR n))), (0, .ref q)]) hx hb dX5_isOn_31 rfl hl (by decide) rfl (fun ls hl => ?_)
  refine lv_iload_n hx hb dX5_isOn_32 rfl (lv_at hl 1 rfl) ?_
  have J_9 : ∀ (v_7 : Int32), ((if ((nI (k / 5)) + (arR n)) < 0 then 0 else (if 5 ≤ ((nI (k / 5)) + (arR n)) then 0 else (if ((nI (k % 5)) + (arC n)) < 0 then 0 else (if 5 ≤ ((nI (k % 5)) + (arC n)) then 0 else 1)))) = v_7) → W p l e rm_X5_isOn s m args below meth c H locs 0 0 Q (F0 m 55 ls [.int v_7]) := by
    intro v_7 ev_8
    rw [← hQ]
    exact m_iret () hx hb hr (by subst ev_8; first | rfl | exact onR_nar _ _) hlk hM hS (by subst ev_8; first | rfl | (unfold onR; rfl)) (by first | decide | omega) (by first | decide | omega) dX5_isOn_55
  refine lv_if_lt (tgt := 54) hx hb dX5_isOn_33 (by decide) (fun c_3 => ?_) (fun c_3 => ?_)
  · refine lv_iconst (v := 0) hx hb dX5_isOn_54 (by decide) ?_
    exact J_9 _ (by first | (rw [if_pos c_3]) | rfl | (simp only [c_3, if_true, if_false, ite_true, ite_false, not_false_eq_true, reduceIte]))
  · refine lv_iload_n hx hb dX5_isOn_36 rfl (lv_at hl 1 rfl) ?_
    refine lv_iconst (v := 5) hx hb dX5_isOn_37 (by decide) ?_
    refine lv_icmp_ge (tgt := 54) hx hb dX5_isOn_38 (by decide) (fun c_4 => ?_) (fun c_4 => ?_)
    · refine lv_iconst (v := 0) hx hb dX5_isOn_54 (by decide) ?_
      exact J_9 _ (by first | (rw [if_neg c_3, if_pos c_4]) | rfl | (simp only [c_3, c_4, if_true, if_false, ite_true, ite_false, not_false_eq_true, reduceIte]))
    · refine lv_iload_n hx hb dX5_isOn_41 rfl (lv_at hl 0 rfl) ?_
      refine lv_if_lt (tgt := 54) hx hb dX5_isOn_42 (by decide) (fun c_5 => ?_) (fun c_5 => ?_)
      · refine lv_iconst (v := 0) hx hb dX5_isOn_54 (by decide) ?_
        exact J_9 _ (by first | (rw [if_neg c_3, if_neg c_4, if_pos c_5]) | rfl | (simp only [c_3, c_4, c_5, if_true, if_false, ite_true, ite_false, not_false_eq_true, reduceIte]))
      · refine lv_iload_n hx hb dX5_isOn_45 rfl (lv_at hl 0 rfl) ?_
        refine lv_iconst (v := 5) hx hb dX5_isOn_46 (by decide) ?_
        refine lv_icmp_ge (tgt := 54) hx hb dX5_isOn_47 (by decide) (fun c_6 => ?_) (fun c_6 => ?_)
        · refine lv_iconst (v := 0) hx hb dX5_isOn_54 (by decide) ?_
          exact J_9 _ (by first | (rw [if_neg c_3, if_neg c_4, if_neg c_5, if_pos c_6]) | rfl | (simp only [c_3, c_4, c_5, c_6, if_true, if_false, ite_true, ite_false, not_false_eq_true, reduceIte]))
        · refine lv_iconst (v := 1) hx hb dX5_isOn_50 (by decide) ?_
          refine lv_goto (tgt := 55) hx hb dX5_isOn_51 (by decide) ?_
          exact J_9 _ (by first | (rw [if_neg c_3, if_neg c_4, if_neg c_5, if_neg c_6]) | rfl | (simp only [c_3, c_4, c_5, c_6, if_true, if_false, ite_true, ite_false, not_false_eq_true, reduceIte]))

abbrev rm_X5_hasNext : Room := { frames := 0, cells := 0, slots := 0, locals := 0 }
set_option maxHeartbeats 400000 in
theorem k_X5_hasNext (l : Launch) (g : GG) (A : Nat → Prop) (M : MM) (q k n : Nat) : Met l yX5_hasNext (ws_ yX5_hasNext cX5_hasNext 1 (some .boolean)) rm_X5_hasNext (va_Pc [.ref q] (mPre g A (mAr M q k n))) (pQi g A (if 4 ≤ nI n then 0 else 1) (mAr M q k n)) 0 0 A := by
  refine m_start RX5 rfl (by decide) (Nat.le_of_ble_eq_true rfl) ?_
  intro p e s m args below meth c hcf hr hlk hnm hE hA H locs hM hS ls hl
  have hx := hcf.1
  have hb := hcf.2.1
  have hml := hcf.2.2.1
  have hown := hcf.2.2.2.1
  have hts := hcf.2.2.2.2
  have hl : lv_has ls 1 [(0, .ref q)] := hl
  generalize hQ : MQ below (pQi g A (if 4 ≤ nI n then 0 else 1) (mAr M q k n)) args s 0 0 A = Q
  refine lv_aload_n hx hb dX5_hasNext_0 rfl (lv_at hl 0 rfl) ?_
  refine ar_get hcf hE hM 1 (by decide) q246 rfl rfl dX5_hasNext_1 ?_
  refine ar_row hcf hE hS dX5_hasNext_4 ?_
  refine ar_len hcf hE hS dX5_hasNext_7 ?_
  have J_4 : ∀ (v_2 : Int32), ((if 4 ≤ (nI n) then 0 else 1) = v_2) → W p l e rm_X5_hasNext s m args below meth c H locs 0 0 Q (F0 m 16 ls [.int v_2]) := by
    intro v_2 ev_3
    rw [← hQ]
    exact m_iret () hx hb hr (by subst ev_3; first | rfl | exact (by split <;> rfl)) hlk hM hS (by subst ev_3; first | rfl) (by first | decide | omega) (by first | decide | omega) dX5_hasNext_16
  refine lv_icmp_ge (tgt := 15) hx hb dX5_hasNext_8 (by decide) (fun c_1 => ?_) (fun c_1 => ?_)
  · refine lv_iconst (v := 0) hx hb dX5_hasNext_15 (by decide) ?_
    exact J_4 _ (by first | (rw [if_pos c_1]) | rfl | (simp only [c_1, if_true, if_false, ite_true, ite_false, not_false_eq_true, reduceIte]))
  · refine lv_iconst (v := 1) hx hb dX5_hasNext_11 (by decide) ?_
    refine lv_goto (tgt := 16) hx hb dX5_hasNext_12 (by decide) ?_
    exact J_4 _ (by first | (rw [if_neg c_1]) | rfl | (simp only [c_1, if_true, if_false, ite_true, ite_false, not_false_eq_true, reduceIte]))

abbrev rm_X5_skip : Room := { frames := 1, cells := 0, slots := 0, locals := 22 }
set_option maxHeartbeats 400000 in
theorem k_X5_skip (l : Launch) (g : GG) (A : Nat → Prop) (M : MM) (q k n0 : Nat) (hk : k < 25) (hn : n0 ≤ 4) : Met l yX5_skip (ws_ yX5_skip cX5_skip 1 none) rm_X5_skip (va_Pc [.ref q] (mPre g A (mAr M q k n0))) (pQv g A (mAr M q k (skpN k 4 n0))) 0 0 A := by
  refine m_start RX5 rfl (by decide) (Nat.le_of_ble_eq_true rfl) ?_
  intro p e s m args below meth c hcf hr hlk hnm hE hA H locs hM hS ls hl
  have hx := hcf.1
  have hb := hcf.2.1
  have hml := hcf.2.2.1
  have hown := hcf.2.2.2.1
  have hts := hcf.2.2.2.2
  have hl : lv_has ls 1 [(0, .ref q)] := hl
  generalize hQ : MQ below (pQv g A (mAr M q k (skpN k 4 n0))) args s 0 0 A = Q
  have Ls : ∀ (f n : Nat), n ≤ 4 → 4 ≤ n + f → skpN k f n = skpN k 4 n0 → ∀ (H : Heap) (locs : List Loc) (ls : Array Slot), mW g.1 A (mAr M q k n) H → va_S A s.heap H locs → lv_has ls 1 [(0, .ref q)] → W p l e rm_X5_skip s m args below meth c H locs 0 0 Q (F0 m 0 ls []) := by
    intro f
    induction f with
    | zero =>
      intro n h4 hf he H locs ls hM hS hl
      have h5 : n = 4 := by omega
      have h6 : (4 : Int32) ≤ nI n := by rw [h5]; decide
      refine lv_aload_n hx hb dX5_skip_0 rfl (lv_at hl 0 rfl) ?_
      refine ar_get hcf hE hM 1 (by decide) q246 rfl rfl dX5_skip_1 ?_
      refine ar_row hcf hE hS dX5_skip_4 ?_
      refine ar_len hcf hE hS dX5_skip_7 ?_
      refine lv_icmp_ge (tgt := 31) hx hb dX5_skip_8 (by decide) (fun _ => ?_) (fun c9 => absurd h6 c9)
      rw [← hQ]
      exact m_vret () hx hb hr hlk (by rw [← he]; exact hM) hS trivial (by first | decide | omega) (by first | decide | omega) dX5_skip_31
    | succ f ih =>
      intro n h4 hf he H locs ls hM hS hl
      rw [skpN_s] at he
      by_cases h5 : 4 ≤ n
      · rw [if_pos h5] at he
        have h6 : (4 : Int32) ≤ nI n := nI_le (a := 4) h5 (by omega)
        refine lv_aload_n hx hb dX5_skip_0 rfl (lv_at hl 0 rfl) ?_
        refine ar_get hcf hE hM 1 (by decide) q246 rfl rfl dX5_skip_1 ?_
        refine ar_row hcf hE hS dX5_skip_4 ?_
        refine ar_len hcf hE hS dX5_skip_7 ?_
        refine lv_icmp_ge (tgt := 31) hx hb dX5_skip_8 (by decide) (fun _ => ?_) (fun c9 => absurd h6 c9)
        rw [← hQ]
        exact m_vret () hx hb hr hlk (by rw [← he]; exact hM) hS trivial (by first | decide | omega) (by first | decide | omega) dX5_skip_31
      · rw [if_neg h5] at he
        have h6 : ¬ (4 : Int32) ≤ nI n := nI_ge (b := 4) (by omega) (by omega)
        refine lv_aload_n hx hb dX5_skip_0 rfl (lv_at hl 0 rfl) ?_
        refine ar_get hcf hE hM 1 (by decide) q246 rfl rfl dX5_skip_1 ?_
        refine ar_row hcf hE hS dX5_skip_4 ?_
        refine ar_len hcf hE hS dX5_skip_7 ?_
        refine lv_icmp_ge (tgt := 31) hx hb dX5_skip_8 (by decide) (fun c9 => absurd c9 h6) (fun _ => ?_)
        refine lv_aload_n hx hb dX5_skip_11 rfl (lv_at hl 0 rfl) ?_
        refine m_cpi (m_rV (As := []) (rest := []) hcf (k_X5_isOn l g A M q k n hk (by omega)) (cwV 0 hts (lw_V q239 q241 qs4 q51 q242) rfl rfl rfl (by decide +kernel) ⟨Nat.le_of_ble_eq_true rfl, Nat.le_of_ble_eq_true rfl⟩) hE hA hM hS 20 0 (mUp_self _ _ _ _) (ci := 4) rfl rfl hl.1 rfl (Nat.le_of_ble_eq_true rfl) dX5_skip_12 ⟨Nat.le_of_ble_eq_true rfl, Nat.le_of_ble_eq_true rfl⟩) hS (fun H locs hM hS => ?_)
        refine lv_if_ne (tgt := 31) hx hb dX5_skip_15 (by decide) (fun c_302 => ?_) (fun c_302 => ?_)
        · rw [← hQ]
          exact m_vret () hx hb hr hlk (by rw [if_neg c_302] at he; rw [← he]; exact hM) hS trivial (by first | decide | omega) (by first | decide | omega) dX5_skip_31
        · refine lv_aload_n hx hb dX5_skip_18 rfl (lv_at hl 0 rfl) ?_
          refine lv_dup hx hb dX5_skip_19 rfl ?_
          refine ar_get hcf hE hM 1 (by decide) q246 rfl rfl dX5_skip_20 ?_
          refine lv_iconst (v := 1) hx hb dX5_skip_23 (by decide) ?_
          refine lv_iadd hx hb dX5_skip_24 ?_
          refine m_topI (y := nI (n + 1)) (nI_add n 1) ?_
          refine ar_put hcf hE hM hS (n + 1) rfl dX5_skip_25 (fun H locs hM hS => ?_)
          refine lv_goto (tgt := 0) hx hb dX5_skip_28 (by decide) ?_
          exact ih (n + 1) (by omega) (by omega) (by rw [if_pos c_302] at he; exact he) H locs ls hM hS (lv_sub hl [0] rfl)
  exact Ls 4 n0 hn (by omega) rfl H locs ls hM hS hl

abbrev rm_X5_init : Room := { frames := 2, cells := 0, slots := 0, locals := 42 }
set_option maxHeartbeats 400000 in
theorem k_X5_init (l : Launch) (g : GG) (A : Nat → Prop) (M : MM) (q k : Nat) (hk : k < 25) : Met l yX5_init (ws_ yX5_init cX5_init 2 none) rm_X5_init (va_Pc [.ref q, .int (nI k)] (mPre g A (mUp M 20 0 (q, .inr (4, [.int 0, .int 0]))))) (pQv g A (mAr M q k (skpN k 4 0))) 0 0 A := by
  refine m_start RX5 rfl (by decide) (Nat.le_of_ble_eq_true rfl) ?_
  intro p e s m args below meth c hcf hr hlk hnm hE hA H locs hM hS ls hl
  have hx := hcf.1
  have hb := hcf.2.1
  have hml := hcf.2.2.1
  have hown := hcf.2.2.2.1
  have hts := hcf.2.2.2.2
  have hl : lv_has ls 2 [(0, .ref q), (1, .int (nI k))] := hl
  generalize hQ : MQ below (pQv g A (mAr M q k (skpN k 4 0))) args s 0 0 A = Q
  refine lv_aload_n hx hb dX5_init_0 rfl (lv_at hl 0 rfl) ?_
  refine W.objInit hx hb hown (hts _ q232) (hts _ q71) (hts _ q72) rfl (by rw [hml]; exact hl.1) rfl dX5_init_1 (Nat.le_of_ble_eq_true rfl) (Nat.le_of_ble_eq_true rfl) ?_
  refine W.eq (g2 := F0 m 4 ls []) rfl ?_
  refine lv_aload_n hx hb dX5_init_4 rfl (lv_at hl 0 rfl) ?_
  refine lv_iload_n hx hb dX5_init_5 rfl (lv_at hl 1 rfl) ?_
  refine m_putF hx hb hts in_X5 tyX5 tyX5_ok nmX5 hown hE hM hS 20 0 (mUp_self _ _ _ _) (ci := 4) rfl 0 (by decide) (hts _ q245) (fun _ h9 => h9) rfl hnm rfl (ty := .int) rfl rfl rfl (Nat.le_of_ble_eq_true rfl) (M' := mAr M q k 0) rfl (fun j i h9 => by unfold mAr; rw [mUp_ne _ _ h9, mUp_ne _ _ h9]) dX5_init_6 (fun H locs hM hS => ?_)
  refine lv_aload_n hx hb dX5_init_9 rfl (lv_at hl 0 rfl) ?_
  refine m_cpv (m_rV (As := []) (rest := []) hcf (k_X5_skip l g A M q k 0 hk (by omega)) (cwV 0 hts (lw_V q233 q235 qs3 q51 q236) rfl rfl rfl (by decide +kernel) ⟨Nat.le_of_ble_eq_true rfl, Nat.le_of_ble_eq_true rfl⟩) hE hA hM hS 20 0 (mUp_self _ _ _ _) (ci := 4) rfl rfl hl.1 rfl (Nat.le_of_ble_eq_true rfl) dX5_init_10 ⟨Nat.le_of_ble_eq_true rfl, Nat.le_of_ble_eq_true rfl⟩) hS (fun H locs hM hS => ?_)
  rw [← hQ]
  exact m_vret () hx hb hr hlk hM hS trivial (by first | decide | omega) (by first | decide | omega) dX5_init_13

abbrev rm_J14_intValue : Room := { frames := 0, cells := 0, slots := 0, locals := 0 }
theorem k_J14_intValue (l : Launch) (g : GG) (A : Nat → Prop) (M : MM) (j : Nat) (hj : j < 256) : Met l yJ14_intValue (ws_ yJ14_intValue cJ14_intValue 1 (some .int)) rm_J14_intValue (va_Pc [.ref (g.2.2.1 j)] (mPre g A M)) (pQi g A (vb_c j) M) 0 0 A := by
  refine m_start RJ14 rfl (by decide) (Nat.le_of_ble_eq_true rfl) ?_
  intro p e s m args below meth c hcf hr hlk hnm hE hA H locs hM hS ls hl
  have hl : lv_has ls 1 [(0, .ref (g.2.2.1 j))] := hl
  refine lv_aload_n hcf.1 hcf.2.1 dJ14_intValue_0 rfl (lv_at hl 0 rfl) ?_
  refine va_getX hcf.1 hcf.2.1 hE.2.1.1.2 hj hS hcf.2.2.2.1 (hcf.2.2.2.2 _ q358) (fun _ h9 => h9) dJ14_intValue_1 ?_
  exact m_iret () hcf.1 hcf.2.1 hr rfl hlk hM hS rfl (by decide) (by decide) dJ14_intValue_4
abbrev rm_J14_valueOf : Room := { frames := 0, cells := 0, slots := 0, locals := 0 }
theorem k_J14_valueOf (l : Launch) (g : GG) (A : Nat → Prop) (M : MM) (j : Nat) (hj : j < 25) : Met l yJ14_valueOf (ws_ yJ14_valueOf cJ14_valueOf 1 (some (.object "java/lang/Integer"))) rm_J14_valueOf (va_Pc [.int (nI j)] (mPre g A M)) (pQr g A (g.2.2.1 (j + 128)) M) 0 0 A := by
  refine m_start RJ14 rfl (by decide) (Nat.le_of_ble_eq_true rfl) ?_
  intro p e s m args below meth c hcf hr hlk hnm hE hA H locs hM hS ls hl
  have hx := hcf.1
  have hb := hcf.2.1
  have hown := hcf.2.2.2.1
  have hts := hcf.2.2.2.2
  have hl : lv_has ls 1 [(0, .int (nI j))] := hl
  have h1 : ¬ nI j < (-128) := by
    have key : ∀ j, j < 25 → ¬ nI j < (-128) := by decide +kernel
    exact key j hj
  have h2 : ¬ (127 : Int32) < nI j := by
    have key : ∀ j, j < 25 → ¬ (127 : Int32) < nI j := by decide +kernel
    exact key j hj
  refine lv_iload_n hx hb dJ14_valueOf_0 rfl (lv_at hl 0 rfl) ?_
  refine lv_bipush (v := (-128)) hx hb dJ14_valueOf_1 (by decide) ?_
  refine lv_icmp_lt (tgt := 23) hx hb dJ14_valueOf_3 (by decide) (fun c9 => absurd c9 h1) (fun _ => ?_)
  refine lv_iload_n hx hb dJ14_valueOf_6 rfl (lv_at hl 0 rfl) ?_
  refine va_gets hx hb hE.2.1.2.2.2.1 hS hown (hts _ q345) (fun _ h9 => h9) dJ14_valueOf_7 ?_
  refine lv_icmp_gt (tgt := 23) hx hb dJ14_valueOf_10 (by decide) (fun c9 => absurd c9 h2) (fun _ => ?_)
  refine va_gets hx hb hE.2.1.2.1 hS hown (hts _ q347) (fun _ h9 => h9) dJ14_valueOf_13 ?_
  refine lv_iload_n hx hb dJ14_valueOf_16 rfl (lv_at hl 0 rfl) ?_
  refine lv_sipush (v := 128) hx hb dJ14_valueOf_17 (by decide) ?_
  refine lv_iadd hx hb dJ14_valueOf_20 ?_
  refine m_topI (y := nI (j + 128)) (nI_add j 128) ?_
  refine vb_tq hx hb hE.2.1.2.2.1 hS (vp_in_nI (by omega) (by decide)) (v := .ref (g.2.2.1 (j + 128))) (by rw [nI_clamp (by omega)]) dJ14_valueOf_21 ?_
  exact m_aret () hx hb hr (Or.inl ⟨_, rfl⟩) hlk hM hS trivial rfl (by decide) (by decide) dJ14_valueOf_22

abbrev rm_X5_next_2 : Room := { frames := 2, cells := 0, slots := 0, locals := 42 }
set_option maxHeartbeats 400000 in
theorem k_X5_next_2 (l : Launch) (g : GG) (A : Nat → Prop) (M : MM) (q k n : Nat) (hk : k < 25) (hn : n < 4) (b : Nat) (hb25 : b < 25) (hbn : nI k + 5 * arR n + arC n = nI b) : Met l yX5_next_2 (ws_ yX5_next_2 cX5_next_2 2 (some (.object "java/lang/Integer"))) rm_X5_next_2 (va_Pc [.ref q] (mPre g A (mAr M q k n))) (pQr g A (g.2.2.1 (b + 128)) (mAr M q k (skpN k 4 (n + 1)))) 0 0 A := by
  refine m_start RX5 rfl (by decide) (Nat.le_of_ble_eq_true rfl) ?_
  intro p e s m args below meth c hcf hr hlk hnm hE hA H locs hM hS ls hl
  have hx := hcf.1
  have hb := hcf.2.1
  have hml := hcf.2.2.1
  have hown := hcf.2.2.2.1
  have hts := hcf.2.2.2.2
  have hl : lv_has ls 2 [(0, .ref q)] := hl
  generalize hQ : MQ below (pQr g A (g.2.2.1 (b + 128)) (mAr M q k (skpN k 4 (n + 1)))) args s 0 0 A = Q
  refine lv_aload_n hx hb dX5_next_2_0 rfl (lv_at hl 0 rfl) ?_
  refine m_cpi (m_rV (As := []) (rest := []) hcf (k_X5_hasNext l g A M q k n ) (cwV 0 hts (lw_V q275 q259 q1202 q51 q261) rfl rfl rfl (by decide +kernel) ⟨Nat.le_of_ble_eq_true rfl, Nat.le_of_ble_eq_true rfl⟩) hE hA hM hS 20 0 (mUp_self _ _ _ _) (ci := 4) rfl rfl hl.1 rfl (Nat.le_of_ble_eq_true rfl) dX5_next_2_1 ⟨Nat.le_of_ble_eq_true rfl, Nat.le_of_ble_eq_true rfl⟩) hS (fun H locs hM hS => ?_)
  refine m_topI (y := 1) (if_neg (nI_ge (b := 4) hn (by omega))) ?_
  refine lv_if_ne (tgt := 15) hx hb dX5_next_2_4 (by decide) (fun _ => ?_) (fun c9 => absurd c9 (by decide))
  refine lv_aload_n hx hb dX5_next_2_15 rfl (lv_at hl 0 rfl) ?_
  refine ar_get hcf hE hM 0 (by decide) q245 rfl rfl dX5_next_2_16 ?_
  refine lv_iconst (v := 5) hx hb dX5_next_2_19 (by decide) ?_
  refine ar_row hcf hE hS dX5_next_2_20 ?_
  refine lv_aload_n hx hb dX5_next_2_23 rfl (lv_at hl 0 rfl) ?_
  refine ar_get hcf hE hM 1 (by decide) q246 rfl rfl dX5_next_2_24 ?_
  refine ar_rowT hcf hE hS (by omega) dX5_next_2_27 ?_
  refine lv_imul hx hb dX5_next_2_28 ?_
  refine lv_iadd hx hb dX5_next_2_29 ?_
  refine ar_col hcf hE hS dX5_next_2_30 ?_
  refine lv_aload_n hx hb dX5_next_2_33 rfl (lv_at hl 0 rfl) ?_
  refine ar_get hcf hE hM 1 (by decide) q246 rfl rfl dX5_next_2_34 ?_
  refine ar_colT hcf hE hS (by omega) dX5_next_2_37 ?_
  refine lv_iadd hx hb dX5_next_2_38 ?_
  refine m_topI (y := nI b) (by first | exact hbn | (rw [← hbn]; rfl)) ?_
  refine lv_istore_n (lv' := [(1, .int (nI b)), (0, .ref q)]) hx hb dX5_next_2_39 rfl hl (by decide) rfl (fun ls hl => ?_)
  refine lv_aload_n hx hb dX5_next_2_40 rfl (lv_at hl 1 rfl) ?_
  refine lv_dup hx hb dX5_next_2_41 rfl ?_
  refine ar_get hcf hE hM 1 (by decide) q246 rfl rfl dX5_next_2_42 ?_
  refine lv_iconst (v := 1) hx hb dX5_next_2_45 (by decide) ?_
  refine lv_iadd hx hb dX5_next_2_46 ?_
  refine m_topI (y := nI (n + 1)) (nI_add n 1) ?_
  refine ar_put hcf hE hM hS (n + 1) rfl dX5_next_2_47 (fun H locs hM hS => ?_)
  refine lv_aload_n hx hb dX5_next_2_50 rfl (lv_at hl 1 rfl) ?_
  refine m_cpv (m_rV (As := []) (rest := []) hcf (k_X5_skip l g A M q k (n + 1) hk (by omega)) (cwV 0 hts (lw_V q233 q235 qs3 q51 q236) rfl rfl rfl (by decide +kernel) ⟨Nat.le_of_ble_eq_true rfl, Nat.le_of_ble_eq_true rfl⟩) hE hA hM hS 20 0 (mUp_self _ _ _ _) (ci := 4) rfl rfl hl.1 rfl (Nat.le_of_ble_eq_true rfl) dX5_next_2_51 ⟨Nat.le_of_ble_eq_true rfl, Nat.le_of_ble_eq_true rfl⟩) hS (fun H locs hM hS => ?_)
  refine lv_iload_n hx hb dX5_next_2_54 rfl (lv_at hl 0 rfl) ?_
  refine m_cpr (m_rS (As := [.int (nI b)]) (rest := []) hcf (k_J14_valueOf l g A (mAr M q k (skpN k 4 (n + 1))) b (by omega)) (va_cwS 1 hts (lw_S q342 q343 q54 q344) rfl rfl rfl (by decide +kernel) ⟨Nat.le_of_ble_eq_true rfl, Nat.le_of_ble_eq_true rfl⟩) hE hA hM hS rfl hl.1 rfl (Nat.le_of_ble_eq_true rfl) dX5_next_2_55 ⟨Nat.le_of_ble_eq_true rfl, Nat.le_of_ble_eq_true rfl⟩) hS (fun H locs hM hS => ?_)
  rw [← hQ]
  exact m_aret () hx hb hr (by first | exact Or.inl ⟨_, rfl⟩ | exact Or.inr ⟨_, rfl⟩) hlk hM hS trivial rfl (by first | decide | omega) (by first | decide | omega) dX5_next_2_58

abbrev rm_X5_next : Room := { frames := 3, cells := 0, slots := 0, locals := 63 }
set_option maxHeartbeats 400000 in
theorem k_X5_next (l : Launch) (g : GG) (A : Nat → Prop) (M : MM) (q k n : Nat) (hk : k < 25) (hn : n < 4) (b : Nat) (hb25 : b < 25) (hbn : nI k + 5 * arR n + arC n = nI b) : Met l yX5_next (ws_ yX5_next cX5_next 1 (some (.object "java/lang/Object"))) rm_X5_next (va_Pc [.ref q] (mPre g A (mAr M q k n))) (pQr g A (g.2.2.1 (b + 128)) (mAr M q k (skpN k 4 (n + 1)))) 0 0 A := by
  refine m_start RX5 rfl (by decide) (Nat.le_of_ble_eq_true rfl) ?_
  intro p e s m args below meth c hcf hr hlk hnm hE hA H locs hM hS ls hl
  have hx := hcf.1
  have hb := hcf.2.1
  have hml := hcf.2.2.1
  have hown := hcf.2.2.2.1
  have hts := hcf.2.2.2.2
  have hl : lv_has ls 1 [(0, .ref q)] := hl
  generalize hQ : MQ below (pQr g A (g.2.2.1 (b + 128)) (mAr M q k (skpN k 4 (n + 1)))) args s 0 0 A = Q
  refine lv_aload_n hx hb dX5_next_0 rfl (lv_at hl 0 rfl) ?_
  refine m_cpr (m_rV (As := []) (rest := []) hcf (k_X5_next_2 l g A M q k n hk hn b hb25 hbn) (cwV 0 hts (lw_V q271 q272 q273 q51 q274) rfl rfl rfl (by decide +kernel) ⟨Nat.le_of_ble_eq_true rfl, Nat.le_of_ble_eq_true rfl⟩) hE hA hM hS 20 0 (mUp_self _ _ _ _) (ci := 4) rfl rfl hl.1 rfl (Nat.le_of_ble_eq_true rfl) dX5_next_1 ⟨Nat.le_of_ble_eq_true rfl, Nat.le_of_ble_eq_true rfl⟩) hS (fun H locs hM hS => ?_)
  rw [← hQ]
  exact m_aret () hx hb hr (by first | exact Or.inl ⟨_, rfl⟩ | exact Or.inr ⟨_, rfl⟩) hlk hM hS trivial rfl (by first | decide | omega) (by first | decide | omega) dX5_next_4
