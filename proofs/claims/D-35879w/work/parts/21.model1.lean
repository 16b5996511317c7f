/-! the reference's small methods -/
set_option maxRecDepth 100000
def lesF (a b : Int32) : Int32 := if b ≤ a then b else a
def greF (a b : Int32) : Int32 := if a ≤ b then b else a
def inF (v a b : Int32) : Int32 := if v < a then 0 else if b < v then 0 else 1
theorem inF_nar (v a b : Int32) : narrow .boolean (.int (inF v a b)) = .int (inF v a b) := by
  unfold inF
  split
  · rfl
  · split <;> rfl
def degF (x : St) (k : Nat) : Int32 := if 0 ≤ x.1 10 k then (if x.1 10 k ≤ 1000 * (x.1 8 k + x.1 9 k) then 0 else (x.1 10 k - 1000 * (x.1 8 k + x.1 9 k)) / 100) else x.1 10 k / 100
def melF (x : St) (k : Nat) : Int32 := if 1000 ≤ x.1 10 k then lesF (x.1 8 k + x.1 9 k) (x.1 10 k / 1000) else 0
def lakF (x : St) (k : Nat) : Int32 := if x.1 3 k ≤ 2 then 0 else 1
theorem lakF_nar (x : St) (k : Nat) : narrow .boolean (.int (lakF x k)) = .int (lakF x k) := by
  unfold lakF
  split <;> rfl
def briF (x : St) (k : Nat) (v : Int32) : St := sL (sI x 10 k (x.1 10 k + v)) 26 (x.2 26 + v.toInt64)
def sinG (x : St) (k : Nat) : Int32 := greF 0 (melF x k - x.1 8 k)
def sinF (x : St) (k : Nat) : St := sI (sI (sI (sI x 9 k (x.1 9 k - sinG x k)) 10 k (x.1 10 k - 1000 * sinG x k)) 2 (k / 5) (x.1 2 (k / 5) - sinG x k)) 3 (k / 5) (x.1 3 (k / 5) + sinG x k)
abbrev rm_X4_lesser : Room := { frames := 0, cells := 0, slots := 0, locals := 0 }
set_option maxHeartbeats 400000 in
theorem k_X4_lesser (l : Launch) (g : GG) (A : Nat → Prop) (M : MM) (a0 a1 : Int32) : Met l yX4_lesser (ws_ yX4_lesser cX4_lesser 2 (some .int)) rm_X4_lesser (va_Pc [.int a0, .int a1] (mPre g A (M))) (pQi g A (lesF a0 a1) M) 0 0 A := by
  refine m_start RX4 rfl (by decide) (Nat.le_of_ble_eq_true rfl) ?_
  intro p e s m args below meth c hcf hr hlk hnm hE hA H locs hM hS ls hl
  have hx := hcf.1
  have hb := hcf.2.1
  have hml := hcf.2.2.1
  have hown := hcf.2.2.2.1
  have hts := hcf.2.2.2.2
  have hl : lv_has ls 2 [(0, .int a0), (1, .int a1)] := hl
  generalize hQ : MQ below (pQi g A (lesF a0 a1) M) args s 0 0 A = Q
  refine lv_iload_n hx hb dX4_lesser_0 rfl (lv_at hl 0 rfl) ?_
  refine lv_iload_n hx hb dX4_lesser_1 rfl (lv_at hl 1 rfl) ?_
  have J_4 : ∀ (v_2 : Int32), ((if a1 ≤ a0 then a1 else a0) = v_2) → W p l e rm_X4_lesser s m args below meth c H locs 0 0 Q (F0 m 10 ls [.int v_2]) := by
    intro v_2 ev_3
    rw [← hQ]
    exact m_iret () hx hb hr rfl hlk hM hS (by subst ev_3; first | rfl) (by first | decide | omega) (by first | decide | omega) dX4_lesser_10
  refine lv_icmp_ge (tgt := 9) hx hb dX4_lesser_2 (by decide) (fun c_1 => ?_) (fun c_1 => ?_)
  · refine lv_iload_n hx hb dX4_lesser_9 rfl (lv_at hl 1 rfl) ?_
    exact J_4 _ (by first | rfl | (rw [if_pos c_1]) | (simp only [c_1, if_true, if_false, ite_true, ite_false, not_false_eq_true, reduceIte]))
  · refine lv_iload_n hx hb dX4_lesser_5 rfl (lv_at hl 0 rfl) ?_
    refine lv_goto (tgt := 10) hx hb dX4_lesser_6 (by decide) ?_
    exact J_4 _ (by first | rfl | (rw [if_neg c_1]) | (simp only [c_1, if_true, if_false, ite_true, ite_false, not_false_eq_true, reduceIte]))

abbrev rm_X4_greater : Room := { frames := 0, cells := 0, slots := 0, locals := 0 }
set_option maxHeartbeats 400000 in
theorem k_X4_greater (l : Launch) (g : GG) (A : Nat → Prop) (M : MM) (a0 a1 : Int32) : Met l yX4_greater (ws_ yX4_greater cX4_greater 2 (some .int)) rm_X4_greater (va_Pc [.int a0, .int a1] (mPre g A (M))) (pQi g A (greF a0 a1) M) 0 0 A := by
  refine m_start RX4 rfl (by decide) (Nat.le_of_ble_eq_true rfl) ?_
  intro p e s m args below meth c hcf hr hlk hnm hE hA H locs hM hS ls hl
  have hx := hcf.1
  have hb := hcf.2.1
  have hml := hcf.2.2.1
  have hown := hcf.2.2.2.1
  have hts := hcf.2.2.2.2
  have hl : lv_has ls 2 [(0, .int a0), (1, .int a1)] := hl
  generalize hQ : MQ below (pQi g A (greF a0 a1) M) args s 0 0 A = Q
  refine lv_iload_n hx hb dX4_greater_0 rfl (lv_at hl 0 rfl) ?_
  refine lv_iload_n hx hb dX4_greater_1 rfl (lv_at hl 1 rfl) ?_
  have J_4 : ∀ (v_2 : Int32), ((if a0 ≤ a1 then a1 else a0) = v_2) → W p l e rm_X4_greater s m args below meth c H locs 0 0 Q (F0 m 10 ls [.int v_2]) := by
    intro v_2 ev_3
    rw [← hQ]
    exact m_iret () hx hb hr rfl hlk hM hS (by subst ev_3; first | rfl) (by first | decide | omega) (by first | decide | omega) dX4_greater_10
  refine lv_icmp_le (tgt := 9) hx hb dX4_greater_2 (by decide) (fun c_1 => ?_) (fun c_1 => ?_)
  · refine lv_iload_n hx hb dX4_greater_9 rfl (lv_at hl 1 rfl) ?_
    exact J_4 _ (by first | rfl | (rw [if_pos c_1]) | (simp only [c_1, if_true, if_false, ite_true, ite_false, not_false_eq_true, reduceIte]))
  · refine lv_iload_n hx hb dX4_greater_5 rfl (lv_at hl 0 rfl) ?_
    refine lv_goto (tgt := 10) hx hb dX4_greater_6 (by decide) ?_
    exact J_4 _ (by first | rfl | (rw [if_neg c_1]) | (simp only [c_1, if_true, if_false, ite_true, ite_false, not_false_eq_true, reduceIte]))

abbrev rm_X4_within : Room := { frames := 0, cells := 0, slots := 0, locals := 0 }
set_option maxHeartbeats 400000 in
theorem k_X4_within (l : Launch) (g : GG) (A : Nat → Prop) (M : MM) (a0 a1 a2 : Int32) : Met l yX4_within (ws_ yX4_within cX4_within 3 (some .boolean)) rm_X4_within (va_Pc [.int a0, .int a1, .int a2] (mPre g A (M))) (pQi g A (inF a0 a1 a2) M) 0 0 A := by
  refine m_start RX4 rfl (by decide) (Nat.le_of_ble_eq_true rfl) ?_
  intro p e s m args below meth c hcf hr hlk hnm hE hA H locs hM hS ls hl
  have hx := hcf.1
  have hb := hcf.2.1
  have hml := hcf.2.2.1
  have hown := hcf.2.2.2.1
  have hts := hcf.2.2.2.2
  have hl : lv_has ls 3 [(0, .int a0), (1, .int a1), (2, .int a2)] := hl
  generalize hQ : MQ below (pQi g A (inF a0 a1 a2) M) args s 0 0 A = Q
  refine lv_iload_n hx hb dX4_within_0 rfl (lv_at hl 0 rfl) ?_
  refine lv_iload_n hx hb dX4_within_1 rfl (lv_at hl 1 rfl) ?_
  have J_5 : ∀ (v_3 : Int32), ((if a0 < a1 then 0 else (if a2 < a0 then 0 else 1)) = v_3) → W p l e rm_X4_within s m args below meth c H locs 0 0 Q (F0 m 15 ls [.int v_3]) := by
    intro v_3 ev_4
    rw [← hQ]
    exact m_iret () hx hb hr (by subst ev_4; first | rfl | exact (inF_nar _ _ _)) hlk hM hS (by subst ev_4; first | rfl | (unfold inF; rfl)) (by first | decide | omega) (by first | decide | omega) dX4_within_15
  refine lv_icmp_lt (tgt := 14) hx hb dX4_within_2 (by decide) (fun c_1 => ?_) (fun c_1 => ?_)
  · refine lv_iconst (v := 0) hx hb dX4_within_14 (by decide) ?_
    exact J_5 _ (by first | rfl | (rw [if_pos c_1]) | (simp only [c_1, if_true, if_false, ite_true, ite_false, not_false_eq_true, reduceIte]))
  · refine lv_iload_n hx hb dX4_within_5 rfl (lv_at hl 0 rfl) ?_
    refine lv_iload_n hx hb dX4_within_6 rfl (lv_at hl 2 rfl) ?_
    refine lv_icmp_gt (tgt := 14) hx hb dX4_within_7 (by decide) (fun c_2 => ?_) (fun c_2 => ?_)
    · refine lv_iconst (v := 0) hx hb dX4_within_14 (by decide) ?_
      exact J_5 _ (by first | rfl | (rw [if_neg c_1, if_pos c_2]) | (simp only [c_1, c_2, if_true, if_false, ite_true, ite_false, not_false_eq_true, reduceIte]))
    · refine lv_iconst (v := 1) hx hb dX4_within_10 (by decide) ?_
      refine lv_goto (tgt := 15) hx hb dX4_within_11 (by decide) ?_
      exact J_5 _ (by first | rfl | (rw [if_neg c_1, if_neg c_2]) | (simp only [c_1, c_2, if_true, if_false, ite_true, ite_false, not_false_eq_true, reduceIte]))

abbrev rm_X4_isCell : Room := { frames := 1, cells := 0, slots := 0, locals := 22 }
set_option maxHeartbeats 400000 in
theorem k_X4_isCell (l : Launch) (g : GG) (A : Nat → Prop) (M : MM) (a0 : Int32) : Met l yX4_isCell (ws_ yX4_isCell cX4_isCell 1 (some .boolean)) rm_X4_isCell (va_Pc [.int a0] (mPre g A (M))) (pQi g A (inF a0 0 24) M) 0 0 A := by
  refine m_start RX4 rfl (by decide) (Nat.le_of_ble_eq_true rfl) ?_
  intro p e s m args below meth c hcf hr hlk hnm hE hA H locs hM hS ls hl
  have hx := hcf.1
  have hb := hcf.2.1
  have hml := hcf.2.2.1
  have hown := hcf.2.2.2.1
  have hts := hcf.2.2.2.2
  have hl : lv_has ls 1 [(0, .int a0)] := hl
  generalize hQ : MQ below (pQi g A (inF a0 0 24) M) args s 0 0 A = Q
  refine lv_iload_n hx hb dX4_isCell_0 rfl (lv_at hl 0 rfl) ?_
  refine lv_iconst (v := 0) hx hb dX4_isCell_1 (by decide) ?_
  refine lv_bipush (v := 24) hx hb dX4_isCell_2 (by decide) ?_
  refine m_cpi (m_rS (As := [.int a0, .int 0, .int 24]) (rest := []) hcf (k_X4_within l g A (M) a0 0 24) (va_cwS 3 hts (lw_S q1044 q1045 q41 q1046) rfl rfl rfl (by decide +kernel) ⟨Nat.le_of_ble_eq_true rfl, Nat.le_of_ble_eq_true rfl⟩) hE hA hM hS rfl hl.1 rfl (Nat.le_of_ble_eq_true rfl) dX4_isCell_4 ⟨Nat.le_of_ble_eq_true rfl, Nat.le_of_ble_eq_true rfl⟩) hS (fun H locs hM hS => ?_)
  rw [← hQ]
  exact m_iret () hx hb hr (by first | rfl | exact (inF_nar _ _ _)) hlk hM hS (by first | rfl) (by first | decide | omega) (by first | decide | omega) dX4_isCell_7

abbrev rm_X4_degreesOf : Room := { frames := 0, cells := 0, slots := 0, locals := 0 }
set_option maxHeartbeats 400000 in
theorem k_X4_degreesOf (l : Launch) (g : GG) (A : Nat → Prop) (ad : Nat → Nat → Nat) (x : St) (k : Nat) (hk : k < 125) : Met l yX4_degreesOf (ws_ yX4_degreesOf cX4_degreesOf 3 (some .int)) rm_X4_degreesOf (va_Pc [.ref (ad 30 0), .int (nI k)] (mPre g A (mwM g ad x))) (pQi g A (degF x k) (mwM g ad x)) 0 0 A := by
  refine m_start RX4 rfl (by decide) (Nat.le_of_ble_eq_true rfl) ?_
  intro p e s m args below meth c hcf hr hlk hnm hE hA H locs hM hS ls hl
  have hx := hcf.1
  have hb := hcf.2.1
  have hml := hcf.2.2.1
  have hown := hcf.2.2.2.1
  have hts := hcf.2.2.2.2
  have hl : lv_has ls 3 [(0, .ref (ad 30 0)), (1, .int (nI k))] := hl
  generalize hQ : MQ below (pQi g A (degF x k) (mwM g ad x)) args s 0 0 A = Q
  refine lv_sipush (v := 1000) hx hb dX4_degreesOf_0 (by decide) ?_
  refine lv_aload_n hx hb dX4_degreesOf_3 rfl (lv_at hl 0 rfl) ?_
  refine mm_get hcf hE hM 8 (by decide) q944 rfl rfl dX4_degreesOf_4 ?_
  refine lv_iload_n hx hb dX4_degreesOf_7 rfl (lv_at hl 1 rfl) ?_
  refine mm_ald hcf hE hM 8 rfl (by decide) k (by show _ < 125; omega) rfl dX4_degreesOf_8 ?_
  refine lv_aload_n hx hb dX4_degreesOf_9 rfl (lv_at hl 0 rfl) ?_
  refine mm_get hcf hE hM 9 (by decide) q945 rfl rfl dX4_degreesOf_10 ?_
  refine lv_iload_n hx hb dX4_degreesOf_13 rfl (lv_at hl 1 rfl) ?_
  refine mm_ald hcf hE hM 9 rfl (by decide) k (by show _ < 125; omega) rfl dX4_degreesOf_14 ?_
  refine lv_iadd hx hb dX4_degreesOf_15 ?_
  refine lv_imul hx hb dX4_degreesOf_16 ?_
  refine lv_istore_n (lv' := [(2, .int (1000 * ((x.1 8 k) + (x.1 9 k)))), (0, .ref (ad 30 0)), (1, .int (nI k))]) hx hb dX4_degreesOf_17 rfl hl (by decide) rfl (fun ls hl => ?_)
  refine lv_aload_n hx hb dX4_degreesOf_18 rfl (lv_at hl 1 rfl) ?_
  refine mm_get hcf hE hM 10 (by decide) q946 rfl rfl dX4_degreesOf_19 ?_
  refine lv_iload_n hx hb dX4_degreesOf_22 rfl (lv_at hl 2 rfl) ?_
  refine mm_ald hcf hE hM 10 rfl (by decide) k (by show _ < 125; omega) rfl dX4_degreesOf_23 ?_
  refine lv_if_ge (tgt := 37) hx hb dX4_degreesOf_24 (by decide) (fun c_2 => ?_) (fun c_2 => ?_)
  · refine lv_aload_n hx hb dX4_degreesOf_37 rfl (lv_at hl 1 rfl) ?_
    refine mm_get hcf hE hM 10 (by decide) q946 rfl rfl dX4_degreesOf_38 ?_
    refine lv_iload_n hx hb dX4_degreesOf_41 rfl (lv_at hl 2 rfl) ?_
    refine mm_ald hcf hE hM 10 rfl (by decide) k (by show _ < 125; omega) rfl dX4_degreesOf_42 ?_
    refine lv_iload_n hx hb dX4_degreesOf_43 rfl (lv_at hl 0 rfl) ?_
    have J_6 : ∀ (v_4 : Int32), ((if (x.1 10 k) ≤ (1000 * ((x.1 8 k) + (x.1 9 k))) then 0 else (((x.1 10 k) - (1000 * ((x.1 8 k) + (x.1 9 k)))) / 100)) = v_4) → W p l e rm_X4_degreesOf s m args below meth c H locs 0 0 Q (F0 m 62 ls [.int v_4]) := by
      intro v_4 ev_5
      rw [← hQ]
      exact m_iret () hx hb hr rfl hlk hM hS (by subst ev_5; first | rfl | (unfold degF; rfl) | (unfold degF; rw [if_pos c_2] <;> rfl) | (unfold degF; simp only [c_2, if_true, if_false, ite_true, ite_false, not_false_eq_true, reduceIte] <;> rfl) | (rw [if_pos c_2] <;> rfl)) (by first | decide | omega) (by first | decide | omega) dX4_degreesOf_62
    refine lv_icmp_le (tgt := 61) hx hb dX4_degreesOf_44 (by decide) (fun c_3 => ?_) (fun c_3 => ?_)
    · refine lv_iconst (v := 0) hx hb dX4_degreesOf_61 (by decide) ?_
      exact J_6 _ (by first | rfl | (rw [if_pos c_3]) | (simp only [c_3, if_true, if_false, ite_true, ite_false, not_false_eq_true, reduceIte]))
    · refine lv_aload_n hx hb dX4_degreesOf_47 rfl (lv_at hl 1 rfl) ?_
      refine mm_get hcf hE hM 10 (by decide) q946 rfl rfl dX4_degreesOf_48 ?_
      refine lv_iload_n hx hb dX4_degreesOf_51 rfl (lv_at hl 2 rfl) ?_
      refine mm_ald hcf hE hM 10 rfl (by decide) k (by show _ < 125; omega) rfl dX4_degreesOf_52 ?_
      refine lv_iload_n hx hb dX4_degreesOf_53 rfl (lv_at hl 0 rfl) ?_
      refine lv_isub hx hb dX4_degreesOf_54 ?_
      refine lv_bipush (v := 100) hx hb dX4_degreesOf_55 (by decide) ?_
      refine lv_idiv hx hb dX4_degreesOf_57 (by decide) ?_
      refine lv_goto (tgt := 62) hx hb dX4_degreesOf_58 (by decide) ?_
      exact J_6 _ (by first | rfl | (rw [if_neg c_3]) | (simp only [c_3, if_true, if_false, ite_true, ite_false, not_false_eq_true, reduceIte]))
  · refine lv_aload_n hx hb dX4_degreesOf_27 rfl (lv_at hl 1 rfl) ?_
    refine mm_get hcf hE hM 10 (by decide) q946 rfl rfl dX4_degreesOf_28 ?_
    refine lv_iload_n hx hb dX4_degreesOf_31 rfl (lv_at hl 2 rfl) ?_
    refine mm_ald hcf hE hM 10 rfl (by decide) k (by show _ < 125; omega) rfl dX4_degreesOf_32 ?_
    refine lv_bipush (v := 100) hx hb dX4_degreesOf_33 (by decide) ?_
    refine lv_idiv hx hb dX4_degreesOf_35 (by decide) ?_
    rw [← hQ]
    exact m_iret () hx hb hr rfl hlk hM hS (by first | rfl | (unfold degF; rfl) | (unfold degF; rw [if_neg c_2] <;> rfl) | (unfold degF; simp only [c_2, if_true, if_false, ite_true, ite_false, not_false_eq_true, reduceIte] <;> rfl) | (rw [if_neg c_2] <;> rfl)) (by first | decide | omega) (by first | decide | omega) dX4_degreesOf_36

abbrev rm_X4_melted : Room := { frames := 1, cells := 0, slots := 0, locals := 21 }
set_option maxHeartbeats 400000 in
theorem k_X4_melted (l : Launch) (g : GG) (A : Nat → Prop) (ad : Nat → Nat → Nat) (x : St) (k : Nat) (hk : k < 125) : Met l yX4_melted (ws_ yX4_melted cX4_melted 2 (some .int)) rm_X4_melted (va_Pc [.ref (ad 30 0), .int (nI k)] (mPre g A (mwM g ad x))) (pQi g A (melF x k) (mwM g ad x)) 0 0 A := by
  refine m_start RX4 rfl (by decide) (Nat.le_of_ble_eq_true rfl) ?_
  intro p e s m args below meth c hcf hr hlk hnm hE hA H locs hM hS ls hl
  have hx := hcf.1
  have hb := hcf.2.1
  have hml := hcf.2.2.1
  have hown := hcf.2.2.2.1
  have hts := hcf.2.2.2.2
  have hl : lv_has ls 2 [(0, .ref (ad 30 0)), (1, .int (nI k))] := hl
  generalize hQ : MQ below (pQi g A (melF x k) (mwM g ad x)) args s 0 0 A = Q
  refine lv_aload_n hx hb dX4_melted_0 rfl (lv_at hl 0 rfl) ?_
  refine mm_get hcf hE hM 10 (by decide) q946 rfl rfl dX4_melted_1 ?_
  refine lv_iload_n hx hb dX4_melted_4 rfl (lv_at hl 1 rfl) ?_
  refine mm_ald hcf hE hM 10 rfl (by decide) k (by show _ < 125; omega) rfl dX4_melted_5 ?_
  refine lv_sipush (v := 1000) hx hb dX4_melted_6 (by decide) ?_
  have J_7 : ∀ (H : Heap) (locs : List Loc) (v_5 : Int32), mW g.1 A (mwM g ad x) H → va_S A s.heap H locs → ((if 1000 ≤ (x.1 10 k) then (lesF ((x.1 8 k) + (x.1 9 k)) ((x.1 10 k) / 1000)) else 0) = v_5) → W p l e rm_X4_melted s m args below meth c H locs 0 0 Q (F0 m 42 ls [.int v_5]) := by
    intro H locs v_5 hM hS ev_6
    rw [← hQ]
    exact m_iret () hx hb hr rfl hlk hM hS (by subst ev_6; first | rfl) (by first | decide | omega) (by first | decide | omega) dX4_melted_42
  refine lv_icmp_ge (tgt := 16) hx hb dX4_melted_9 (by decide) (fun c_1 => ?_) (fun c_1 => ?_)
  · refine lv_aload_n hx hb dX4_melted_16 rfl (lv_at hl 0 rfl) ?_
    refine mm_get hcf hE hM 8 (by decide) q944 rfl rfl dX4_melted_17 ?_
    refine lv_iload_n hx hb dX4_melted_20 rfl (lv_at hl 1 rfl) ?_
    refine mm_ald hcf hE hM 8 rfl (by decide) k (by show _ < 125; omega) rfl dX4_melted_21 ?_
    refine lv_aload_n hx hb dX4_melted_22 rfl (lv_at hl 0 rfl) ?_
    refine mm_get hcf hE hM 9 (by decide) q945 rfl rfl dX4_melted_23 ?_
    refine lv_iload_n hx hb dX4_melted_26 rfl (lv_at hl 1 rfl) ?_
    refine mm_ald hcf hE hM 9 rfl (by decide) k (by show _ < 125; omega) rfl dX4_melted_27 ?_
    refine lv_iadd hx hb dX4_melted_28 ?_
    refine lv_aload_n hx hb dX4_melted_29 rfl (lv_at hl 0 rfl) ?_
    refine mm_get hcf hE hM 10 (by decide) q946 rfl rfl dX4_melted_30 ?_
    refine lv_iload_n hx hb dX4_melted_33 rfl (lv_at hl 1 rfl) ?_
    refine mm_ald hcf hE hM 10 rfl (by decide) k (by show _ < 125; omega) rfl dX4_melted_34 ?_
    refine lv_sipush (v := 1000) hx hb dX4_melted_35 (by decide) ?_
    refine lv_idiv hx hb dX4_melted_38 (by decide) ?_
    refine m_cpi (m_rS (As := [.int ((x.1 8 k) + (x.1 9 k)), .int ((x.1 10 k) / 1000)]) (rest := []) hcf (k_X4_lesser l g A (mwM g ad x) ((x.1 8 k) + (x.1 9 k)) ((x.1 10 k) / 1000)) (va_cwS 2 hts (lw_S q1063 q1064 q41 q1065) rfl rfl rfl (by decide +kernel) ⟨Nat.le_of_ble_eq_true rfl, Nat.le_of_ble_eq_true rfl⟩) hE hA hM hS rfl hl.1 rfl (Nat.le_of_ble_eq_true rfl) dX4_melted_39 ⟨Nat.le_of_ble_eq_true rfl, Nat.le_of_ble_eq_true rfl⟩) hS (fun H locs hM hS => ?_)
    exact J_7 H locs _ hM hS (by first | rfl | (rw [if_pos c_1]) | (simp only [c_1, if_true, if_false, ite_true, ite_false, not_false_eq_true, reduceIte]))
  · refine lv_iconst (v := 0) hx hb dX4_melted_12 (by decide) ?_
    refine lv_goto (tgt := 42) hx hb dX4_melted_13 (by decide) ?_
    exact J_7 H locs _ hM hS (by first | rfl | (rw [if_neg c_1]) | (simp only [c_1, if_true, if_false, ite_true, ite_false, not_false_eq_true, reduceIte]))

abbrev rm_X4_isLake : Room := { frames := 0, cells := 0, slots := 0, locals := 0 }
set_option maxHeartbeats 400000 in
theorem k_X4_isLake (l : Launch) (g : GG) (A : Nat → Prop) (ad : Nat → Nat → Nat) (x : St) (k : Nat) (hk : k < 25) : Met l yX4_isLake (ws_ yX4_isLake cX4_isLake 2 (some .boolean)) rm_X4_isLake (va_Pc [.ref (ad 30 0), .int (nI k)] (mPre g A (mwM g ad x))) (pQi g A (lakF x k) (mwM g ad x)) 0 0 A := by
  refine m_start RX4 rfl (by decide) (Nat.le_of_ble_eq_true rfl) ?_
  intro p e s m args below meth c hcf hr hlk hnm hE hA H locs hM hS ls hl
  have hx := hcf.1
  have hb := hcf.2.1
  have hml := hcf.2.2.1
  have hown := hcf.2.2.2.1
  have hts := hcf.2.2.2.2
  have hl : lv_has ls 2 [(0, .ref (ad 30 0)), (1, .int (nI k))] := hl
  generalize hQ : MQ below (pQi g A (lakF x k) (mwM g ad x)) args s 0 0 A = Q
  refine lv_aload_n hx hb dX4_isLake_0 rfl (lv_at hl 0 rfl) ?_
  refine mm_get hcf hE hM 3 (by decide) q939 rfl rfl dX4_isLake_1 ?_
  refine lv_iload_n hx hb dX4_isLake_4 rfl (lv_at hl 1 rfl) ?_
  refine mm_ald hcf hE hM 3 rfl (by decide) k (by show _ < 25; omega) rfl dX4_isLake_5 ?_
  refine lv_iconst (v := 2) hx hb dX4_isLake_6 (by decide) ?_
  have J_4 : ∀ (v_2 : Int32), ((if (x.1 3 k) ≤ 2 then 0 else 1) = v_2) → W p l e rm_X4_isLake s m args below meth c H locs 0 0 Q (F0 m 15 ls [.int v_2]) := by
    intro v_2 ev_3
    rw [← hQ]
    exact m_iret () hx hb hr (by subst ev_3; first | rfl | exact (lakF_nar _ _)) hlk hM hS (by subst ev_3; first | rfl) (by first | decide | omega) (by first | decide | omega) dX4_isLake_15
  refine lv_icmp_le (tgt := 14) hx hb dX4_isLake_7 (by decide) (fun c_1 => ?_) (fun c_1 => ?_)
  · refine lv_iconst (v := 0) hx hb dX4_isLake_14 (by decide) ?_
    exact J_4 _ (by first | rfl | (rw [if_pos c_1]) | (simp only [c_1, if_true, if_false, ite_true, ite_false, not_false_eq_true, reduceIte]))
  · refine lv_iconst (v := 1) hx hb dX4_isLake_10 (by decide) ?_
    refine lv_goto (tgt := 15) hx hb dX4_isLake_11 (by decide) ?_
    exact J_4 _ (by first | rfl | (rw [if_neg c_1]) | (simp only [c_1, if_true, if_false, ite_true, ite_false, not_false_eq_true, reduceIte]))

abbrev rm_X4_bring : Room := { frames := 0, cells := 0, slots := 0, locals := 0 }
set_option maxHeartbeats 400000 in
theorem k_X4_bring (l : Launch) (g : GG) (A : Nat → Prop) (ad : Nat → Nat → Nat) (x : St) (k : Nat) (hk : k < 125) (v : Int32) : Met l yX4_bring (ws_ yX4_bring cX4_bring 3 none) rm_X4_bring (va_Pc [.ref (ad 30 0), .int (nI k), .int v] (mPre g A (mwM g ad x))) (pQv g A (mwM g ad (briF x k v))) 0 0 A := by
  refine m_start RX4 rfl (by decide) (Nat.le_of_ble_eq_true rfl) ?_
  intro p e s m args below meth c hcf hr hlk hnm hE hA H locs hM hS ls hl
  have hx := hcf.1
  have hb := hcf.2.1
  have hml := hcf.2.2.1
  have hown := hcf.2.2.2.1
  have hts := hcf.2.2.2.2
  have hl : lv_has ls 3 [(0, .ref (ad 30 0)), (1, .int (nI k)), (2, .int v)] := hl
  generalize hQ : MQ below (pQv g A (mwM g ad (briF x k v))) args s 0 0 A = Q
  refine lv_aload_n hx hb dX4_bring_0 rfl (lv_at hl 0 rfl) ?_
  refine mm_get hcf hE hM 10 (by decide) q946 rfl rfl dX4_bring_1 ?_
  refine lv_iload_n hx hb dX4_bring_4 rfl (lv_at hl 1 rfl) ?_
  refine lv_dup2_11 hx hb dX4_bring_5 rfl rfl ?_
  refine mm_ald hcf hE hM 10 rfl (by decide) k (by show _ < 125; omega) rfl dX4_bring_6 ?_
  refine lv_iload_n hx hb dX4_bring_7 rfl (lv_at hl 2 rfl) ?_
  refine lv_iadd hx hb dX4_bring_8 ?_
  refine mm_ast hcf hE hM hS 10 rfl (by decide) k (by show _ < 125; omega) rfl dX4_bring_9 (fun x_1 H locs ex_2 hM hS => ?_)
  refine lv_aload_n hx hb dX4_bring_10 rfl (lv_at hl 0 rfl) ?_
  refine lv_dup hx hb dX4_bring_11 rfl ?_
  refine mm_get hcf hE hM 26 (by decide) q962 rfl rfl dX4_bring_12 ?_
  refine lv_iload_n hx hb dX4_bring_15 rfl (lv_at hl 2 rfl) ?_
  refine lv_i2l hx hb dX4_bring_16 rfl ?_
  refine lv_ladd hx hb dX4_bring_17 ?_
  refine mm_putl hcf hE hM hS 26 (by decide) q962 rfl rfl rfl ((x_1.2 26) + v.toInt64) rfl dX4_bring_18 (fun x_3 H locs ex_4 hM hS => ?_)
  rw [← hQ]
  exact m_vret () hx hb hr hlk (by have hF : x_3 = briF x k v := (by subst ex_4 ex_2; first | rfl); rw [← hF]; exact hM) hS trivial (by first | decide | omega) (by first | decide | omega) dX4_bring_21

abbrev rm_X4_sink : Room := { frames := 2, cells := 0, slots := 0, locals := 42 }
set_option maxHeartbeats 400000 in
theorem k_X4_sink (l : Launch) (g : GG) (A : Nat → Prop) (ad : Nat → Nat → Nat) (x : St) (k : Nat) (hk : k < 125) : Met l yX4_sink (ws_ yX4_sink cX4_sink 3 none) rm_X4_sink (va_Pc [.ref (ad 30 0), .int (nI k)] (mPre g A (mwM g ad x))) (pQv g A (mwM g ad (sinF x k))) 0 0 A := by
  refine m_start RX4 rfl (by decide) (Nat.le_of_ble_eq_true rfl) ?_
  intro p e s m args below meth c hcf hr hlk hnm hE hA H locs hM hS ls hl
  have hx := hcf.1
  have hb := hcf.2.1
  have hml := hcf.2.2.1
  have hown := hcf.2.2.2.1
  have hts := hcf.2.2.2.2
  have hl : lv_has ls 3 [(0, .ref (ad 30 0)), (1, .int (nI k))] := hl
  generalize hQ : MQ below (pQv g A (mwM g ad (sinF x k))) args s 0 0 A = Q
  refine lv_iconst (v := 0) hx hb dX4_sink_0 (by decide) ?_
  refine lv_aload_n hx hb dX4_sink_1 rfl (lv_at hl 0 rfl) ?_
  refine lv_iload_n hx hb dX4_sink_2 rfl (lv_at hl 1 rfl) ?_
  refine m_cpi (m_rV (As := [.int (nI k)]) (rest := [.int 0]) hcf (k_X4_melted l g A ad x k (by omega)) (cwV 1 hts (lw_V q1089 q1091 qs23 q41 q1092) rfl rfl rfl (by decide +kernel) ⟨Nat.le_of_ble_eq_true rfl, Nat.le_of_ble_eq_true rfl⟩) hE hA hM hS 30 0 (mwM_o g ad _) (ci := 1) rfl rfl hl.1 rfl (Nat.le_of_ble_eq_true rfl) dX4_sink_3 ⟨Nat.le_of_ble_eq_true rfl, Nat.le_of_ble_eq_true rfl⟩) hS (fun H locs hM hS => ?_)
  refine lv_aload_n hx hb dX4_sink_6 rfl (lv_at hl 0 rfl) ?_
  refine mm_get hcf hE hM 8 (by decide) q944 rfl rfl dX4_sink_7 ?_
  refine lv_iload_n hx hb dX4_sink_10 rfl (lv_at hl 1 rfl) ?_
  refine mm_ald hcf hE hM 8 rfl (by decide) k (by show _ < 125; omega) rfl dX4_sink_11 ?_
  refine lv_isub hx hb dX4_sink_12 ?_
  refine m_cpi (m_rS (As := [.int 0, .int ((melF x k) - (x.1 8 k))]) (rest := []) hcf (k_X4_greater l g A (mwM g ad x) 0 ((melF x k) - (x.1 8 k))) (va_cwS 2 hts (lw_S q1078 q1079 q41 q1080) rfl rfl rfl (by decide +kernel) ⟨Nat.le_of_ble_eq_true rfl, Nat.le_of_ble_eq_true rfl⟩) hE hA hM hS rfl hl.1 rfl (Nat.le_of_ble_eq_true rfl) dX4_sink_13 ⟨Nat.le_of_ble_eq_true rfl, Nat.le_of_ble_eq_true rfl⟩) hS (fun H locs hM hS => ?_)
  refine lv_istore_n (lv' := [(2, .int (greF 0 ((melF x k) - (x.1 8 k)))), (0, .ref (ad 30 0)), (1, .int (nI k))]) hx hb dX4_sink_16 rfl hl (by decide) rfl (fun ls hl => ?_)
  refine lv_aload_n hx hb dX4_sink_17 rfl (lv_at hl 1 rfl) ?_
  refine mm_get hcf hE hM 9 (by decide) q945 rfl rfl dX4_sink_18 ?_
  refine lv_iload_n hx hb dX4_sink_21 rfl (lv_at hl 2 rfl) ?_
  refine lv_dup2_11 hx hb dX4_sink_22 rfl rfl ?_
  refine mm_ald hcf hE hM 9 rfl (by decide) k (by show _ < 125; omega) rfl dX4_sink_23 ?_
  refine lv_iload_n hx hb dX4_sink_24 rfl (lv_at hl 0 rfl) ?_
  refine lv_isub hx hb dX4_sink_25 ?_
  refine mm_ast hcf hE hM hS 9 rfl (by decide) k (by show _ < 125; omega) rfl dX4_sink_26 (fun x_8 H locs ex_9 hM hS => ?_)
  refine lv_aload_n hx hb dX4_sink_27 rfl (lv_at hl 1 rfl) ?_
  refine mm_get hcf hE hM 10 (by decide) q946 rfl rfl dX4_sink_28 ?_
  refine lv_iload_n hx hb dX4_sink_31 rfl (lv_at hl 2 rfl) ?_
  refine lv_dup2_11 hx hb dX4_sink_32 rfl rfl ?_
  refine mm_ald hcf hE hM 10 rfl (by decide) k (by show _ < 125; omega) rfl dX4_sink_33 ?_
  refine lv_sipush (v := 1000) hx hb dX4_sink_34 (by decide) ?_
  refine lv_iload_n hx hb dX4_sink_37 rfl (lv_at hl 0 rfl) ?_
  refine lv_imul hx hb dX4_sink_38 ?_
  refine lv_isub hx hb dX4_sink_39 ?_
  refine mm_ast hcf hE hM hS 10 rfl (by decide) k (by show _ < 125; omega) rfl dX4_sink_40 (fun x_10 H locs ex_11 hM hS => ?_)
  refine lv_aload_n hx hb dX4_sink_41 rfl (lv_at hl 1 rfl) ?_
  refine mm_get hcf hE hM 2 (by decide) q938 rfl rfl dX4_sink_42 ?_
  refine lv_iload_n hx hb dX4_sink_45 rfl (lv_at hl 2 rfl) ?_
  refine lv_iconst (v := 5) hx hb dX4_sink_46 (by decide) ?_
  refine lv_idiv hx hb dX4_sink_47 (by decide) ?_
  refine m_topI (y := nI (k / 5)) (pk_div (by omega) (by decide) (by decide)) ?_
  refine lv_dup2_11 hx hb dX4_sink_48 rfl rfl ?_
  refine mm_ald hcf hE hM 2 rfl (by decide) (k / 5) (by show _ < 25; omega) rfl dX4_sink_49 ?_
  refine lv_iload_n hx hb dX4_sink_50 rfl (lv_at hl 0 rfl) ?_
  refine lv_isub hx hb dX4_sink_51 ?_
  refine mm_ast hcf hE hM hS 2 rfl (by decide) (k / 5) (by show _ < 25; omega) rfl dX4_sink_52 (fun x_12 H locs ex_13 hM hS => ?_)
  refine lv_aload_n hx hb dX4_sink_53 rfl (lv_at hl 1 rfl) ?_
  refine mm_get hcf hE hM 3 (by decide) q939 rfl rfl dX4_sink_54 ?_
  refine lv_iload_n hx hb dX4_sink_57 rfl (lv_at hl 2 rfl) ?_
  refine lv_iconst (v := 5) hx hb dX4_sink_58 (by decide) ?_
  refine lv_idiv hx hb dX4_sink_59 (by decide) ?_
  refine m_topI (y := nI (k / 5)) (pk_div (by omega) (by decide) (by decide)) ?_
  refine lv_dup2_11 hx hb dX4_sink_60 rfl rfl ?_
  refine mm_ald hcf hE hM 3 rfl (by decide) (k / 5) (by show _ < 25; omega) rfl dX4_sink_61 ?_
  refine lv_iload_n hx hb dX4_sink_62 rfl (lv_at hl 0 rfl) ?_
  refine lv_iadd hx hb dX4_sink_63 ?_
  refine mm_ast hcf hE hM hS 3 rfl (by decide) (k / 5) (by show _ < 25; omega) rfl dX4_sink_64 (fun x_14 H locs ex_15 hM hS => ?_)
  rw [← hQ]
  exact m_vret () hx hb hr hlk (by have hF : x_14 = sinF x k := (by subst ex_15 ex_13 ex_11 ex_9; first | rfl); rw [← hF]; exact hM) hS trivial (by first | decide | omega) (by first | decide | omega) dX4_sink_65
