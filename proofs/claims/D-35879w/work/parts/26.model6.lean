/-! the reference: houses, boreholes, claims -/
set_option maxRecDepth 100000
def hoiF (x : St) (k : Nat) : Nat → Int32 := it (fun f h => if x.1 14 h = nI k then nI h else f) (-1)
theorem hoiF_s (x : St) (k i : Nat) : hoiF x k (i + 1) = if x.1 14 i = nI k then nI i else hoiF x k i := it_succ _ _ _
def wrR (x : St) (h m b : Nat) : Int32 := if x.1 20 b = x.1 14 h then (if nI m < x.1 22 b then 0 else 1) else 0
def wrS (x : St) (h m : Nat) (z : Int32) (b : Nat) : Int32 := if z = 0 then (if wrR x h m b = 0 then 0 else (if x.1 23 (3000 * b + 5 * m + nt x 15 h) < 0 then 0 else 1)) else 1
def wrI (x : St) (h m : Nat) : Nat → Int32 := it (wrS x h m) 0
def worL (x : St) (h : Nat) : Nat → Int32 := it (fun w i => w + (if wrI x h (nt x 18 h + i) (nt x 19 0) = 0 then 0 else 1)) 0
theorem wrI_s (x : St) (h m i : Nat) : wrI x h m (i + 1) = wrS x h m (wrI x h m i) i := it_succ _ _ _
theorem worL_s (x : St) (h i : Nat) : worL x h (i + 1) = worL x h i + (if wrI x h (nt x 18 h + i) (nt x 19 0) = 0 then 0 else 1) := it_succ _ _ _
def worF (x : St) (h : Nat) : Int32 := 100 * lesF (x.1 17 h) (worL x h (nt x 1 0 - nt x 18 h))
def housF (x : St) (k : Nat) (pl co : Int32) : St := sI (sI (sI (sI (sI x 14 (nt x 13 0) (nI k)) 15 (nt x 13 0) pl) 16 (nt x 13 0) co) 18 (nt x 13 0) (nI (nt x 1 0))) 13 0 (nI (nt x 13 0 + 1))
def borF (x : St) (k : Nat) (dr : Int32) : St := sI (sI (sI (sI x 20 (nt x 19 0) (nI k)) 21 (nt x 19 0) dr) 22 (nt x 19 0) (nI (nt x 1 0))) 19 0 (nI (nt x 19 0 + 1))
def clmF (x : St) (h : Nat) : St := sI (sI x 25 (nt x 24 0) (worF x h)) 24 0 (nI (nt x 24 0 + 1))
def why_house_are (a0 a1 : Int32) : Int32 := (if inF a0 0 24 = 0 then 0 else (if inF a1 1 4 = 0 then 0 else 1))
abbrev rm_X4_houseIn : Room := { frames := 0, cells := 0, slots := 0, locals := 0 }
set_option maxHeartbeats 400000 in
theorem k_X4_houseIn (l : Launch) (g : GG) (A : Nat → Prop) (ad : Nat → Nat → Nat) (x : St) (hok : okM x) (k : Nat) : Met l yX4_houseIn (ws_ yX4_houseIn cX4_houseIn 4 (some .int)) rm_X4_houseIn (va_Pc [.ref (ad 30 0), .int (nI k)] (mPre g A (mwM g ad x))) (pQi g A (hoiF x k (nt x 13 0)) (mwM g ad x)) 0 0 A := by
  refine m_start RX4 rfl (by decide) (Nat.le_of_ble_eq_true rfl) ?_
  intro p e s m args below meth c hcf hr hlk hnm hE hA H locs hM hS ls hl
  have hx := hcf.1
  have hb := hcf.2.1
  have hml := hcf.2.2.1
  have hown := hcf.2.2.2.1
  have hts := hcf.2.2.2.2
  have hl : lv_has ls 4 [(0, .ref (ad 30 0)), (1, .int (nI k))] := hl
  have hb13 : nt x 13 0 < 11 := hok.h13.2
  have hb19 : nt x 19 0 < 11 := hok.h19.2
  have hb24 : nt x 24 0 < 41 := hok.h24.2
  have hb1 : nt x 1 0 < 601 := hok.h1.2
  generalize hQ : MQ below (pQi g A (hoiF x k (nt x 13 0)) (mwM g ad x)) args s 0 0 A = Q
  refine lv_iconst (v := (-1)) hx hb dX4_houseIn_0 (by decide) ?_
  refine lv_istore_n (lv' := [(2, .int (-1)), (0, .ref (ad 30 0)), (1, .int (nI k))]) hx hb dX4_houseIn_1 rfl hl (by decide) rfl (fun ls hl => ?_)
  refine lv_iconst (v := 0) hx hb dX4_houseIn_2 (by decide) ?_
  refine lv_istore_n (lv' := [(3, .int 0), (2, .int (-1)), (0, .ref (ad 30 0)), (1, .int (nI k))]) hx hb dX4_houseIn_3 rfl hl (by decide) rfl (fun ls hl => ?_)
  have L_3 : ∀ (n9 i_3 : Nat), i_3 + n9 = nt x 13 0 → ∀ (H : Heap) (locs : List Loc) (ls : Array Slot), mW g.1 A (mwM g ad x) H → va_S A s.heap H locs → lv_has ls 4 [(0, .ref (ad 30 0)), (1, .int (nI k)), (2, .int (hoiF x k i_3)), (3, .int (nI i_3))] → W p l e rm_X4_houseIn s m args below meth c H locs 0 0 Q (F0 m 4 ls []) := by
    intro n9
    induction n9 with
    | zero =>
      intro i_3 hi H locs ls hM hS hl 
      have hi : nt x 13 0 = i_3 := by omega
      subst hi
      refine lv_iload_n hx hb dX4_houseIn_4 rfl (lv_at hl 3 rfl) ?_
      refine lv_aload_n hx hb dX4_houseIn_5 rfl (lv_at hl 0 rfl) ?_
      refine mm_get hcf hE hM 13 (by decide) q949 rfl rfl dX4_houseIn_6 ?_
      refine m_topI (y := nI (nt x 13 0)) ((by exact hok.h13.1)) ?_
      refine lv_icmp_ge (tgt := 34) hx hb dX4_houseIn_9 (by decide) (fun _ => ?_) (fun c9 => absurd (nI_le (Nat.le_refl _) (by omega)) c9)
      refine lv_iload_n hx hb dX4_houseIn_34 rfl (lv_at hl 2 rfl) ?_
      rw [← hQ]
      exact m_iret () hx hb hr rfl hlk hM hS (by first | rfl) (by first | decide | omega) (by first | decide | omega) dX4_houseIn_35
    | succ n9 ih =>
      intro i_3 hi H locs ls hM hS hl 
      have hlt_i_3 : i_3 < nt x 13 0 := by omega
      refine lv_iload_n hx hb dX4_houseIn_4 rfl (lv_at hl 3 rfl) ?_
      refine lv_aload_n hx hb dX4_houseIn_5 rfl (lv_at hl 0 rfl) ?_
      refine mm_get hcf hE hM 13 (by decide) q949 rfl rfl dX4_houseIn_6 ?_
      refine m_topI (y := nI (nt x 13 0)) ((by exact hok.h13.1)) ?_
      refine lv_icmp_ge (tgt := 34) hx hb dX4_houseIn_9 (by decide) (fun c9 => absurd c9 (nI_ge (by omega) (by omega))) (fun _ => ?_)
      refine lv_aload_n hx hb dX4_houseIn_12 rfl (lv_at hl 0 rfl) ?_
      refine mm_get hcf hE hM 14 (by decide) q950 rfl rfl dX4_houseIn_13 ?_
      refine lv_iload_n hx hb dX4_houseIn_16 rfl (lv_at hl 3 rfl) ?_
      refine mm_ald hcf hE hM 14 rfl (by decide) i_3 (by show _ < 10; omega) rfl dX4_houseIn_17 ?_
      refine lv_iload_n hx hb dX4_houseIn_18 rfl (lv_at hl 1 rfl) ?_
      have J_9 : ∀ (v_7 : Int32), ((if (x.1 14 i_3) = (nI k) then (nI i_3) else (hoiF x k i_3)) = v_7) → W p l e rm_X4_houseIn s m args below meth c H locs 0 0 Q (F0 m 27 ls [.int v_7]) := by
        intro v_7 ev_8
        refine lv_istore_n (lv' := [(2, .int v_7), (0, .ref (ad 30 0)), (1, .int (nI k)), (3, .int (nI i_3))]) hx hb dX4_houseIn_27 rfl hl (by decide) rfl (fun ls hl => ?_)
        refine lv_iinc (v := nI (i_3 + 1)) (lv' := [(3, .int (nI (i_3 + 1))), (2, .int v_7), (0, .ref (ad 30 0)), (1, .int (nI k))]) hx hb dX4_houseIn_28 hl (k := 3) rfl (nI_add i_3 1) (by decide) rfl (fun ls hl => ?_)
        refine lv_goto (tgt := 4) hx hb dX4_houseIn_31 (by decide) ?_
        exact ih (i_3 + 1) (by omega) H locs ls hM hS (lv_sub hl [2, 3, 1, 0] (by subst ev_8; rfl))
      refine lv_icmp_ne (tgt := 26) hx hb dX4_houseIn_19 (by decide) (fun c_6 => ?_) (fun c_6 => ?_)
      · refine lv_iload_n hx hb dX4_houseIn_26 rfl (lv_at hl 2 rfl) ?_
        exact J_9 _ (by first | rfl | (rw [if_neg c_6]) | (simp only [c_6, if_true, if_false, ite_true, ite_false, not_false_eq_true, reduceIte]))
      · refine lv_iload_n hx hb dX4_houseIn_22 rfl (lv_at hl 3 rfl) ?_
        refine lv_goto (tgt := 27) hx hb dX4_houseIn_23 (by decide) ?_
        exact J_9 _ (by first | rfl | (rw [if_pos c_6]) | (simp only [c_6, if_true, if_false, ite_true, ite_false, not_false_eq_true, reduceIte]))
  exact L_3 (nt x 13 0) 0 (by omega) H locs ls hM hS (lv_sub hl [2, 3, 1, 0] rfl)

abbrev rm_X4_isHouse : Room := { frames := 1, cells := 0, slots := 0, locals := 22 }
set_option maxHeartbeats 400000 in
theorem k_X4_isHouse (l : Launch) (g : GG) (A : Nat → Prop) (ad : Nat → Nat → Nat) (x : St) (hok : okM x) (a0 : Int32) : Met l yX4_isHouse (ws_ yX4_isHouse cX4_isHouse 2 (some .boolean)) rm_X4_isHouse (va_Pc [.ref (ad 30 0), .int a0] (mPre g A (mwM g ad x))) (pQi g A (inF a0 0 (nI (nt x 13 0) - 1)) (mwM g ad x)) 0 0 A := by
  refine m_start RX4 rfl (by decide) (Nat.le_of_ble_eq_true rfl) ?_
  intro p e s m args below meth c hcf hr hlk hnm hE hA H locs hM hS ls hl
  have hx := hcf.1
  have hb := hcf.2.1
  have hml := hcf.2.2.1
  have hown := hcf.2.2.2.1
  have hts := hcf.2.2.2.2
  have hl : lv_has ls 2 [(0, .ref (ad 30 0)), (1, .int a0)] := hl
  generalize hQ : MQ below (pQi g A (inF a0 0 (nI (nt x 13 0) - 1)) (mwM g ad x)) args s 0 0 A = Q
  refine lv_iload_n hx hb dX4_isHouse_0 rfl (lv_at hl 1 rfl) ?_
  refine lv_iconst (v := 0) hx hb dX4_isHouse_1 (by decide) ?_
  refine lv_aload_n hx hb dX4_isHouse_2 rfl (lv_at hl 0 rfl) ?_
  refine mm_get hcf hE hM 13 (by decide) q949 rfl rfl dX4_isHouse_3 ?_
  refine m_topI (y := nI (nt x 13 0)) ((by exact hok.h13.1)) ?_
  refine lv_iconst (v := 1) hx hb dX4_isHouse_6 (by decide) ?_
  refine lv_isub hx hb dX4_isHouse_7 ?_
  refine m_cpi (m_rS (As := [.int a0, .int 0, .int ((nI (nt x 13 0)) - 1)]) (rest := []) hcf (k_X4_within l g A (mwM g ad x) a0 0 ((nI (nt x 13 0)) - 1)) (va_cwS 3 hts (lw_S q1044 q1045 q41 q1046) rfl rfl rfl (by decide +kernel) ⟨Nat.le_of_ble_eq_true rfl, Nat.le_of_ble_eq_true rfl⟩) hE hA hM hS rfl hl.1 rfl (Nat.le_of_ble_eq_true rfl) dX4_isHouse_8 ⟨Nat.le_of_ble_eq_true rfl, Nat.le_of_ble_eq_true rfl⟩) hS (fun H locs hM hS => ?_)
  rw [← hQ]
  exact m_iret () hx hb hr (by first | rfl | exact inF_nar _ _ _) hlk hM hS (by first | rfl) (by first | decide | omega) (by first | decide | omega) dX4_isHouse_11

abbrev rm_X4_worth : Room := { frames := 1, cells := 0, slots := 0, locals := 21 }
set_option maxHeartbeats 400000 in
theorem k_X4_worth (l : Launch) (g : GG) (A : Nat → Prop) (ad : Nat → Nat → Nat) (x : St) (hok : okM x) (h : Nat) (hh : h < 10) (hbu : nt x 18 h ≤ nt x 1 0) : Met l yX4_worth (ws_ yX4_worth cX4_worth 7 (some .int)) rm_X4_worth (va_Pc [.ref (ad 30 0), .int (nI h)] (mPre g A (mwM g ad x))) (pQi g A (worF x h) (mwM g ad x)) 0 0 A := by
  refine m_start RX4 rfl (by decide) (Nat.le_of_ble_eq_true rfl) ?_
  intro p e s m args below meth c hcf hr hlk hnm hE hA H locs hM hS ls hl
  have hx := hcf.1
  have hb := hcf.2.1
  have hml := hcf.2.2.1
  have hown := hcf.2.2.2.1
  have hts := hcf.2.2.2.2
  have hl : lv_has ls 7 [(0, .ref (ad 30 0)), (1, .int (nI h))] := hl
  have hb13 : nt x 13 0 < 11 := hok.h13.2
  have hb19 : nt x 19 0 < 11 := hok.h19.2
  have hb24 : nt x 24 0 < 41 := hok.h24.2
  have hb1 : nt x 1 0 < 601 := hok.h1.2
  have hpl : nt x 15 h < 5 := (hok.h15 hh).2
  generalize hQ : MQ below (pQi g A (worF x h) (mwM g ad x)) args s 0 0 A = Q
  refine lv_iconst (v := 0) hx hb dX4_worth_0 (by decide) ?_
  refine lv_istore_n (lv' := [(2, .int 0), (0, .ref (ad 30 0)), (1, .int (nI h))]) hx hb dX4_worth_1 rfl hl (by decide) rfl (fun ls hl => ?_)
  refine lv_aload_n hx hb dX4_worth_2 rfl (lv_at hl 1 rfl) ?_
  refine mm_get hcf hE hM 18 (by decide) q954 rfl rfl dX4_worth_3 ?_
  refine lv_iload_n hx hb dX4_worth_6 rfl (lv_at hl 2 rfl) ?_
  refine mm_ald hcf hE hM 18 rfl (by decide) h (by show _ < 10; omega) rfl dX4_worth_7 ?_
  refine m_topI (y := nI (nt x 18 h)) ((hok.h18 hh).1) ?_
  refine lv_istore_n (lv' := [(3, .int (nI (nt x 18 h))), (2, .int 0), (0, .ref (ad 30 0)), (1, .int (nI h))]) hx hb dX4_worth_8 rfl hl (by decide) rfl (fun ls hl => ?_)
  have L_3 : ∀ (n9 i_3 : Nat), i_3 + n9 = nt x 1 0 - nt x 18 h → ∀ (H : Heap) (locs : List Loc) (ls : Array Slot), mW g.1 A (mwM g ad x) H → va_S A s.heap H locs → lv_has ls 7 [(0, .ref (ad 30 0)), (1, .int (nI h)), (2, .int (worL x h i_3)), (3, .int (nI (nt x 18 h + i_3)))] → W p l e rm_X4_worth s m args below meth c H locs 0 0 Q (F0 m 9 ls []) := by
    intro n9
    induction n9 with
    | zero =>
      intro i_3 hi H locs ls hM hS hl 
      have hi : nt x 1 0 - nt x 18 h = i_3 := by omega
      subst hi
      refine lv_iload_n hx hb dX4_worth_9 rfl (lv_at hl 3 rfl) ?_
      refine lv_aload_n hx hb dX4_worth_10 rfl (lv_at hl 0 rfl) ?_
      refine mm_get hcf hE hM 1 (by decide) q937 rfl rfl dX4_worth_11 ?_
      refine m_topI (y := nI (nt x 1 0)) ((by exact hok.h1.1)) ?_
      refine lv_icmp_ge (tgt := 133) hx hb dX4_worth_14 (by decide) (fun _ => ?_) (fun c9 => absurd (nI_le (by omega) (by omega)) c9)
      refine lv_bipush (v := 100) hx hb dX4_worth_133 (by decide) ?_
      refine lv_aload_n hx hb dX4_worth_135 rfl (lv_at hl 0 rfl) ?_
      refine mm_get hcf hE hM 17 (by decide) q953 rfl rfl dX4_worth_136 ?_
      refine lv_iload_n hx hb dX4_worth_139 rfl (lv_at hl 1 rfl) ?_
      refine mm_ald hcf hE hM 17 rfl (by decide) h (by show _ < 10; omega) rfl dX4_worth_140 ?_
      refine lv_iload_n hx hb dX4_worth_141 rfl (lv_at hl 2 rfl) ?_
      refine m_cpi (m_rS (As := [.int (x.1 17 h), .int (worL x h (nt x 1 0 - nt x 18 h))]) (rest := [.int 100]) hcf (k_X4_lesser l g A (mwM g ad x) (x.1 17 h) (worL x h (nt x 1 0 - nt x 18 h))) (va_cwS 2 hts (lw_S q1063 q1064 q41 q1065) rfl rfl rfl (by decide +kernel) ⟨Nat.le_of_ble_eq_true rfl, Nat.le_of_ble_eq_true rfl⟩) hE hA hM hS rfl hl.1 rfl (Nat.le_of_ble_eq_true rfl) dX4_worth_142 ⟨Nat.le_of_ble_eq_true rfl, Nat.le_of_ble_eq_true rfl⟩) hS (fun H locs hM hS => ?_)
      refine lv_imul hx hb dX4_worth_145 ?_
      rw [← hQ]
      exact m_iret () hx hb hr rfl hlk hM hS (by first | rfl) (by first | decide | omega) (by first | decide | omega) dX4_worth_146
    | succ n9 ih =>
      intro i_3 hi H locs ls hM hS hl 
      have hlt_i_3 : i_3 < nt x 1 0 - nt x 18 h := by omega
      refine lv_iload_n hx hb dX4_worth_9 rfl (lv_at hl 3 rfl) ?_
      refine lv_aload_n hx hb dX4_worth_10 rfl (lv_at hl 0 rfl) ?_
      refine mm_get hcf hE hM 1 (by decide) q937 rfl rfl dX4_worth_11 ?_
      refine m_topI (y := nI (nt x 1 0)) ((by exact hok.h1.1)) ?_
      refine lv_icmp_ge (tgt := 133) hx hb dX4_worth_14 (by decide) (fun c9 => absurd c9 (nI_ge (by omega) (by omega))) (fun _ => ?_)
      refine lv_iconst (v := 0) hx hb dX4_worth_17 (by decide) ?_
      refine lv_istore (lv' := [(4, .int 0), (0, .ref (ad 30 0)), (1, .int (nI h)), (2, .int (worL x h i_3)), (3, .int (nI (nt x 18 h + i_3)))]) hx hb dX4_worth_18 hl (by decide) rfl (fun ls hl => ?_)
      refine lv_iconst (v := 0) hx hb dX4_worth_20 (by decide) ?_
      refine lv_istore (lv' := [(5, .int 0), (4, .int 0), (0, .ref (ad 30 0)), (1, .int (nI h)), (2, .int (worL x h i_3)), (3, .int (nI (nt x 18 h + i_3)))]) hx hb dX4_worth_21 hl (by decide) rfl (fun ls hl => ?_)
      have L_11 : ∀ (n9 i_11 : Nat), i_11 + n9 = nt x 19 0 → ∀ (H : Heap) (locs : List Loc) (ls : Array Slot), mW g.1 A (mwM g ad x) H → va_S A s.heap H locs → lv_has ls 7 [(0, .ref (ad 30 0)), (1, .int (nI h)), (2, .int (worL x h i_3)), (3, .int (nI (nt x 18 h + i_3))), (4, .int (wrI x h (nt x 18 h + i_3) i_11)), (5, .int (nI i_11))] → W p l e rm_X4_worth s m args below meth c H locs 0 0 Q (F0 m 23 ls []) := by
        intro n9
        induction n9 with
        | zero =>
          intro i_11 hi H locs ls hM hS hl 
          have hi : nt x 19 0 = i_11 := by omega
          subst hi
          refine lv_iload hx hb dX4_worth_23 (lv_at hl 5 rfl) ?_
          refine lv_aload_n hx hb dX4_worth_25 rfl (lv_at hl 0 rfl) ?_
          refine mm_get hcf hE hM 19 (by decide) q955 rfl rfl dX4_worth_26 ?_
          refine m_topI (y := nI (nt x 19 0)) ((by exact hok.h19.1)) ?_
          refine lv_icmp_ge (tgt := 114) hx hb dX4_worth_29 (by decide) (fun _ => ?_) (fun c9 => absurd (nI_le (Nat.le_refl _) (by omega)) c9)
          refine lv_iload_n hx hb dX4_worth_114 rfl (lv_at hl 2 rfl) ?_
          refine lv_iload hx hb dX4_worth_115 (lv_at hl 4 rfl) ?_
          have J_16 : ∀ (v_14 : Int32), ((if (wrI x h (nt x 18 h + i_3) (nt x 19 0)) = 0 then 0 else 1) = v_14) → W p l e rm_X4_worth s m args below meth c H locs 0 0 Q (F0 m 125 ls [.int v_14, .int (worL x h i_3)]) := by
            intro v_14 ev_15
            refine lv_iadd hx hb dX4_worth_125 ?_
            refine lv_istore_n (lv' := [(2, .int ((worL x h i_3) + v_14)), (0, .ref (ad 30 0)), (1, .int (nI h)), (3, .int (nI (nt x 18 h + i_3))), (4, .int (wrI x h (nt x 18 h + i_3) (nt x 19 0))), (5, .int (nI (nt x 19 0)))]) hx hb dX4_worth_126 rfl hl (by decide) rfl (fun ls hl => ?_)
            refine lv_iinc (v := nI ((nt x 18 h + i_3) + 1)) (lv' := [(3, .int (nI ((nt x 18 h + i_3) + 1))), (2, .int ((worL x h i_3) + v_14)), (0, .ref (ad 30 0)), (1, .int (nI h)), (4, .int (wrI x h (nt x 18 h + i_3) (nt x 19 0))), (5, .int (nI (nt x 19 0)))]) hx hb dX4_worth_127 hl (k := 3) rfl (nI_add (nt x 18 h + i_3) 1) (by decide) rfl (fun ls hl => ?_)
            refine lv_goto (tgt := 9) hx hb dX4_worth_130 (by decide) ?_
            exact ih (i_3 + 1) (by omega) H locs ls hM hS (lv_sub hl [2, 3, 1, 0] (by subst ev_15; rfl))
          refine lv_if_eq (tgt := 124) hx hb dX4_worth_117 (by decide) (fun c_13 => ?_) (fun c_13 => ?_)
          · refine lv_iconst (v := 0) hx hb dX4_worth_124 (by decide) ?_
            exact J_16 _ (by first | rfl | (rw [if_pos c_13]) | (simp only [c_13, if_true, if_false, ite_true, ite_false, not_false_eq_true, reduceIte]))
          · refine lv_iconst (v := 1) hx hb dX4_worth_120 (by decide) ?_
            refine lv_goto (tgt := 125) hx hb dX4_worth_121 (by decide) ?_
            exact J_16 _ (by first | rfl | (rw [if_neg c_13]) | (simp only [c_13, if_true, if_false, ite_true, ite_false, not_false_eq_true, reduceIte]))
        | succ n9 ih =>
          intro i_11 hi H locs ls hM hS hl 
          have hlt_i_11 : i_11 < nt x 19 0 := by omega
          refine lv_iload hx hb dX4_worth_23 (lv_at hl 5 rfl) ?_
          refine lv_aload_n hx hb dX4_worth_25 rfl (lv_at hl 0 rfl) ?_
          refine mm_get hcf hE hM 19 (by decide) q955 rfl rfl dX4_worth_26 ?_
          refine m_topI (y := nI (nt x 19 0)) ((by exact hok.h19.1)) ?_
          refine lv_icmp_ge (tgt := 114) hx hb dX4_worth_29 (by decide) (fun c9 => absurd c9 (nI_ge (by omega) (by omega))) (fun _ => ?_)
          refine lv_aload_n hx hb dX4_worth_32 rfl (lv_at hl 0 rfl) ?_
          refine mm_get hcf hE hM 20 (by decide) q956 rfl rfl dX4_worth_33 ?_
          refine lv_iload hx hb dX4_worth_36 (lv_at hl 5 rfl) ?_
          refine mm_ald hcf hE hM 20 rfl (by decide) i_11 (by show _ < 10; omega) rfl dX4_worth_38 ?_
          refine lv_aload_n hx hb dX4_worth_39 rfl (lv_at hl 0 rfl) ?_
          refine mm_get hcf hE hM 14 (by decide) q950 rfl rfl dX4_worth_40 ?_
          refine lv_iload_n hx hb dX4_worth_43 rfl (lv_at hl 1 rfl) ?_
          refine mm_ald hcf hE hM 14 rfl (by decide) h (by show _ < 10; omega) rfl dX4_worth_44 ?_
          have J_24 : ∀ (v_22 : Int32), ((if (x.1 20 i_11) = (x.1 14 h) then (if (nI (nt x 18 h + i_3)) < (x.1 22 i_11) then 0 else 1) else 0) = v_22) → W p l e rm_X4_worth s m args below meth c H locs 0 0 Q (F0 m 64 ls [.int v_22]) := by
            intro v_22 ev_23
            refine lv_istore (lv' := [(6, .int v_22), (0, .ref (ad 30 0)), (1, .int (nI h)), (2, .int (worL x h i_3)), (3, .int (nI (nt x 18 h + i_3))), (4, .int (wrI x h (nt x 18 h + i_3) i_11)), (5, .int (nI i_11))]) hx hb dX4_worth_64 hl (by decide) rfl (fun ls hl => ?_)
            refine lv_iload hx hb dX4_worth_66 (lv_at hl 5 rfl) ?_
            have J_31 : ∀ (v_29 : Int32), ((if (wrI x h (nt x 18 h + i_3) i_11) = 0 then (if v_22 = 0 then 0 else (if (x.1 23 (((3000 * i_11) + (5 * (nt x 18 h + i_3))) + nt x 15 h)) < 0 then 0 else 1)) else 1) = v_29) → W p l e rm_X4_worth s m args below meth c H locs 0 0 Q (F0 m 106 ls [.int v_29]) := by
              intro v_29 ev_30
              refine lv_istore (lv' := [(4, .int v_29), (6, .int v_22), (0, .ref (ad 30 0)), (1, .int (nI h)), (2, .int (worL x h i_3)), (3, .int (nI (nt x 18 h + i_3))), (5, .int (nI i_11))]) hx hb dX4_worth_106 hl (by decide) rfl (fun ls hl => ?_)
              refine lv_iinc (v := nI (i_11 + 1)) (lv' := [(5, .int (nI (i_11 + 1))), (4, .int v_29), (6, .int v_22), (0, .ref (ad 30 0)), (1, .int (nI h)), (2, .int (worL x h i_3)), (3, .int (nI (nt x 18 h + i_3)))]) hx hb dX4_worth_108 hl (k := 6) rfl (nI_add i_11 1) (by decide) rfl (fun ls hl => ?_)
              refine lv_goto (tgt := 23) hx hb dX4_worth_111 (by decide) ?_
              exact ih (i_11 + 1) (by omega) H locs ls hM hS (lv_sub hl [3, 4, 5, 6, 1, 0] (by subst ev_30 ev_23; rfl))
            refine lv_if_ne (tgt := 101) hx hb dX4_worth_68 (by decide) (fun c_26 => ?_) (fun c_26 => ?_)
            · refine lv_iconst (v := 1) hx hb dX4_worth_101 (by decide) ?_
              refine lv_goto (tgt := 106) hx hb dX4_worth_102 (by decide) ?_
              exact J_31 _ (by first | rfl | (rw [if_neg c_26]) | (simp only [c_26, if_true, if_false, ite_true, ite_false, not_false_eq_true, reduceIte]))
            · refine lv_iload hx hb dX4_worth_71 (lv_at hl 0 rfl) ?_
              refine lv_if_eq (tgt := 105) hx hb dX4_worth_73 (by decide) (fun c_27 => ?_) (fun c_27 => ?_)
              · refine lv_iconst (v := 0) hx hb dX4_worth_105 (by decide) ?_
                exact J_31 _ (by first | rfl | (rw [if_pos c_26, if_pos c_27]) | (simp only [c_26, c_27, if_true, if_false, ite_true, ite_false, not_false_eq_true, reduceIte]))
              · refine lv_aload_n hx hb dX4_worth_76 rfl (lv_at hl 1 rfl) ?_
                refine mm_get hcf hE hM 23 (by decide) q959 rfl rfl dX4_worth_77 ?_
                refine lv_sipush (v := 3000) hx hb dX4_worth_80 (by decide) ?_
                refine lv_iload hx hb dX4_worth_83 (lv_at hl 6 rfl) ?_
                refine lv_imul hx hb dX4_worth_85 ?_
                refine m_topI (y := nI (3000 * i_11)) (pk_mul 3000 i_11) ?_
                refine lv_iconst (v := 5) hx hb dX4_worth_86 (by decide) ?_
                refine lv_iload_n hx hb dX4_worth_87 rfl (lv_at hl 4 rfl) ?_
                refine lv_imul hx hb dX4_worth_88 ?_
                refine m_topI (y := nI (5 * (nt x 18 h + i_3))) (pk_mul 5 (nt x 18 h + i_3)) ?_
                refine lv_iadd hx hb dX4_worth_89 ?_
                refine m_topI (y := nI ((3000 * i_11) + (5 * (nt x 18 h + i_3)))) (nI_add (3000 * i_11) (5 * (nt x 18 h + i_3))) ?_
                refine lv_aload_n hx hb dX4_worth_90 rfl (lv_at hl 1 rfl) ?_
                refine mm_get hcf hE hM 15 (by decide) q951 rfl rfl dX4_worth_91 ?_
                refine lv_iload_n hx hb dX4_worth_94 rfl (lv_at hl 2 rfl) ?_
                refine mm_ald hcf hE hM 15 rfl (by decide) h (by show _ < 10; omega) rfl dX4_worth_95 ?_
                refine m_topI (y := nI (nt x 15 h)) ((hok.h15 hh).1) ?_
                refine lv_iadd hx hb dX4_worth_96 ?_
                refine m_topI (y := nI (((3000 * i_11) + (5 * (nt x 18 h + i_3))) + nt x 15 h)) (nI_add ((3000 * i_11) + (5 * (nt x 18 h + i_3))) (nt x 15 h)) ?_
                refine mm_ald hcf hE hM 23 rfl (by decide) (((3000 * i_11) + (5 * (nt x 18 h + i_3))) + nt x 15 h) (by show _ < 30000; omega) rfl dX4_worth_97 ?_
                refine lv_if_lt (tgt := 105) hx hb dX4_worth_98 (by decide) (fun c_28 => ?_) (fun c_28 => ?_)
                · refine lv_iconst (v := 0) hx hb dX4_worth_105 (by decide) ?_
                  exact J_31 _ (by first | rfl | (rw [if_pos c_26, if_neg c_27, if_pos c_28]) | (simp only [c_26, c_27, c_28, if_true, if_false, ite_true, ite_false, not_false_eq_true, reduceIte]))
                · refine lv_iconst (v := 1) hx hb dX4_worth_101 (by decide) ?_
                  refine lv_goto (tgt := 106) hx hb dX4_worth_102 (by decide) ?_
                  exact J_31 _ (by first | rfl | (rw [if_pos c_26, if_neg c_27, if_neg c_28]) | (simp only [c_26, c_27, c_28, if_true, if_false, ite_true, ite_false, not_false_eq_true, reduceIte]))
          refine lv_icmp_ne (tgt := 63) hx hb dX4_worth_45 (by decide) (fun c_20 => ?_) (fun c_20 => ?_)
          · refine lv_iconst (v := 0) hx hb dX4_worth_63 (by decide) ?_
            exact J_24 _ (by first | rfl | (rw [if_neg c_20]) | (simp only [c_20, if_true, if_false, ite_true, ite_false, not_false_eq_true, reduceIte]))
          · refine lv_aload_n hx hb dX4_worth_48 rfl (lv_at hl 0 rfl) ?_
            refine mm_get hcf hE hM 22 (by decide) q958 rfl rfl dX4_worth_49 ?_
            refine lv_iload hx hb dX4_worth_52 (lv_at hl 5 rfl) ?_
            refine mm_ald hcf hE hM 22 rfl (by decide) i_11 (by show _ < 10; omega) rfl dX4_worth_54 ?_
            refine lv_iload_n hx hb dX4_worth_55 rfl (lv_at hl 3 rfl) ?_
            refine lv_icmp_gt (tgt := 63) hx hb dX4_worth_56 (by decide) (fun c_21 => ?_) (fun c_21 => ?_)
            · refine lv_iconst (v := 0) hx hb dX4_worth_63 (by decide) ?_
              exact J_24 _ (by first | rfl | (rw [if_pos c_20, if_pos c_21]) | (simp only [c_20, c_21, if_true, if_false, ite_true, ite_false, not_false_eq_true, reduceIte]))
            · refine lv_iconst (v := 1) hx hb dX4_worth_59 (by decide) ?_
              refine lv_goto (tgt := 64) hx hb dX4_worth_60 (by decide) ?_
              exact J_24 _ (by first | rfl | (rw [if_pos c_20, if_neg c_21]) | (simp only [c_20, c_21, if_true, if_false, ite_true, ite_false, not_false_eq_true, reduceIte]))
      exact L_11 (nt x 19 0) 0 (by omega) H locs ls hM hS (lv_sub hl [2, 3, 4, 5, 1, 0] rfl)
  exact L_3 (nt x 1 0 - nt x 18 h) 0 (by omega) H locs ls hM hS (lv_sub hl [2, 3, 1, 0] rfl)

abbrev rm_X4_month : Room := { frames := 0, cells := 0, slots := 0, locals := 0 }
set_option maxHeartbeats 400000 in
theorem k_X4_month (l : Launch) (g : GG) (A : Nat → Prop) (ad : Nat → Nat → Nat) (x : St) (hok : okM x) : Met l yX4_month (ws_ yX4_month cX4_month 1 (some .int)) rm_X4_month (va_Pc [.ref (ad 30 0)] (mPre g A (mwM g ad x))) (pQi g A (x.1 1 0) (mwM g ad (sI x 0 0 0))) 0 0 A := by
  refine m_start RX4 rfl (by decide) (Nat.le_of_ble_eq_true rfl) ?_
  intro p e s m args below meth c hcf hr hlk hnm hE hA H locs hM hS ls hl
  have hx := hcf.1
  have hb := hcf.2.1
  have hml := hcf.2.2.1
  have hown := hcf.2.2.2.1
  have hts := hcf.2.2.2.2
  have hl : lv_has ls 1 [(0, .ref (ad 30 0))] := hl
  generalize hQ : MQ below (pQi g A (x.1 1 0) (mwM g ad (sI x 0 0 0))) args s 0 0 A = Q
  refine lv_aload_n hx hb dX4_month_0 rfl (lv_at hl 0 rfl) ?_
  refine lv_iconst (v := 0) hx hb dX4_month_1 (by decide) ?_
  refine mm_puti hcf hE hM hS 0 (by decide) rfl q936 rfl rfl rfl 0 rfl dX4_month_2 (fun x_1 H locs ex_2 hM hS => ?_)
  refine lv_aload_n hx hb dX4_month_5 rfl (lv_at hl 0 rfl) ?_
  refine mm_get hcf hE hM 1 (by decide) q937 rfl rfl dX4_month_6 ?_
  rw [← hQ]
  exact m_iret () hx hb hr rfl hlk (by have hF : x_1 = sI x 0 0 0 := (by subst ex_2; first | rfl); rw [← hF]; exact hM) hS (by subst ex_2; first | rfl) (by first | decide | omega) (by first | decide | omega) dX4_month_9

def why_house0  : Int32 := 1
abbrev rm_X4_house_no : Room := { frames := 2, cells := 0, slots := 0, locals := 42 }
set_option maxHeartbeats 400000 in
theorem k_X4_house_no (l : Launch) (g : GG) (A : Nat → Prop) (ad : Nat → Nat → Nat) (x : St) (hok : okM x) (a0 a1 a2 : Int32) (h0 : why_house_are a0 a1 = 0) (w : Int32) (hw : why_house0  = w) (hw0 : ¬ w = 0) : Met l yX4_house (ws_ yX4_house cX4_house 5 (some .int)) rm_X4_house_no (va_Pc [.ref (ad 30 0), .int a0, .int a1, .int a2] (mPre g A (mwM g ad x))) (pQi g A 0 (mwM g ad (sI x 0 0 w))) 0 0 A := by
  refine m_start RX4 rfl (by decide) (Nat.le_of_ble_eq_true rfl) ?_
  intro p e s m args below meth c hcf hr hlk hnm hE hA H locs hM hS ls hl
  have hx := hcf.1
  have hb := hcf.2.1
  have hml := hcf.2.2.1
  have hown := hcf.2.2.2.1
  have hts := hcf.2.2.2.2
  have hl : lv_has ls 5 [(0, .ref (ad 30 0)), (1, .int a0), (2, .int a1), (3, .int a2)] := hl
  generalize hQ : MQ below (pQi g A 0 (mwM g ad (sI x 0 0 w))) args s 0 0 A = Q
  refine lv_iload_n hx hb dX4_house_0 rfl (lv_at hl 1 rfl) ?_
  refine m_cpi (m_rS (As := [.int a0]) (rest := []) hcf (k_X4_isCell l g A (mwM g ad x) a0) (va_cwS 1 hts (lw_S q1041 q1042 q41 q1043) rfl rfl rfl (by decide +kernel) ⟨Nat.le_of_ble_eq_true rfl, Nat.le_of_ble_eq_true rfl⟩) hE hA hM hS rfl hl.1 rfl (Nat.le_of_ble_eq_true rfl) dX4_house_1 ⟨Nat.le_of_ble_eq_true rfl, Nat.le_of_ble_eq_true rfl⟩) hS (fun H locs hM hS => ?_)
  have J_11 : ∀ (H : Heap) (locs : List Loc) (v_9 : Int32), mW g.1 A (mwM g ad x) H → va_S A s.heap H locs → ((if (inF a0 0 24) = 0 then 0 else (if (inF a1 1 4) = 0 then 0 else 1)) = v_9) → W p l e rm_X4_house_no s m args below meth c H locs 0 0 Q (F0 m 21 ls [.int v_9]) := by
    intro H locs v_9 hM hS ev_10
    refine lv_istore (lv' := [(4, .int v_9), (0, .ref (ad 30 0)), (1, .int a0), (2, .int a1), (3, .int a2)]) hx hb dX4_house_21 hl (by decide) rfl (fun ls hl => ?_)
    refine lv_aload_n hx hb dX4_house_23 rfl (lv_at hl 1 rfl) ?_
    refine lv_iload hx hb dX4_house_24 (lv_at hl 0 rfl) ?_
    refine lv_if_ne (tgt := 33) hx hb dX4_house_26 (by decide) (fun c9 => absurd (by subst ev_10; exact h0) c9) (fun _ => ?_)
    refine lv_iconst (v := 1) hx hb dX4_house_29 (by decide) ?_
    refine lv_goto (tgt := 64) hx hb dX4_house_30 (by decide) ?_
    refine m_topI (y := w) (hw) ?_
    refine m_cpi (m_rV (As := [.int w]) (rest := []) hcf (k_X4_refused l g A ad x w) (cwV 1 hts (lw_V q1047 q1049 qs16 q41 q1050) rfl rfl rfl (by decide +kernel) ⟨Nat.le_of_ble_eq_true rfl, Nat.le_of_ble_eq_true rfl⟩) hE hA hM hS 30 0 (mwM_o g ad _) (ci := 1) rfl rfl hl.1 rfl (Nat.le_of_ble_eq_true rfl) dX4_house_64 ⟨Nat.le_of_ble_eq_true rfl, Nat.le_of_ble_eq_true rfl⟩) hS (fun H locs hM hS => ?_)
    obtain ⟨x_15, ex_16⟩ : ∃ z : St, sI x 0 0 w = z := ⟨_, rfl⟩
    rw [ex_16] at hM
    refine lv_if_eq (tgt := 72) hx hb dX4_house_67 (by decide) (fun c9 => absurd c9 (refF_ne hw0)) (fun _ => ?_)
    refine lv_iconst (v := 0) hx hb dX4_house_70 (by decide) ?_
    rw [← hQ]
    exact m_iret () hx hb hr rfl hlk (by have hF : x_15 = sI x 0 0 w := (by subst ex_16 ev_10; first | rfl); rw [← hF]; exact hM) hS (by subst ex_16 ev_10; first | rfl) (by first | decide | omega) (by first | decide | omega) dX4_house_71
  refine lv_if_eq (tgt := 20) hx hb dX4_house_4 (by decide) (fun c_4 => ?_) (fun c_4 => ?_)
  · refine lv_iconst (v := 0) hx hb dX4_house_20 (by decide) ?_
    exact J_11 H locs _ hM hS (by first | rfl | (rw [if_pos c_4]) | (simp only [c_4, if_true, if_false, ite_true, ite_false, not_false_eq_true, reduceIte]))
  · refine lv_iload_n hx hb dX4_house_7 rfl (lv_at hl 2 rfl) ?_
    refine lv_iconst (v := 1) hx hb dX4_house_8 (by decide) ?_
    refine lv_iconst (v := 4) hx hb dX4_house_9 (by decide) ?_
    refine m_cpi (m_rS (As := [.int a1, .int 1, .int 4]) (rest := []) hcf (k_X4_within l g A (mwM g ad x) a1 1 4) (va_cwS 3 hts (lw_S q1044 q1045 q41 q1046) rfl rfl rfl (by decide +kernel) ⟨Nat.le_of_ble_eq_true rfl, Nat.le_of_ble_eq_true rfl⟩) hE hA hM hS rfl hl.1 rfl (Nat.le_of_ble_eq_true rfl) dX4_house_10 ⟨Nat.le_of_ble_eq_true rfl, Nat.le_of_ble_eq_true rfl⟩) hS (fun H locs hM hS => ?_)
    refine lv_if_eq (tgt := 20) hx hb dX4_house_13 (by decide) (fun c_8 => ?_) (fun c_8 => ?_)
    · refine lv_iconst (v := 0) hx hb dX4_house_20 (by decide) ?_
      exact J_11 H locs _ hM hS (by first | rfl | (rw [if_neg c_4, if_pos c_8]) | (simp only [c_4, c_8, if_true, if_false, ite_true, ite_false, not_false_eq_true, reduceIte]))
    · refine lv_iconst (v := 1) hx hb dX4_house_16 (by decide) ?_
      refine lv_goto (tgt := 21) hx hb dX4_house_17 (by decide) ?_
      exact J_11 H locs _ hM hS (by first | rfl | (rw [if_neg c_4, if_neg c_8]) | (simp only [c_4, c_8, if_true, if_false, ite_true, ite_false, not_false_eq_true, reduceIte]))


def why_house_k (x : St) (k : Nat) : Int32 := (if (hoiF x k (nt x 13 0)) = (-1) then (if (lakF x k) = 0 then (if (nI (nt x 13 0)) = 10 then 2 else 0) else 2) else 2 : Int32)
abbrev rm_X4_house_nk : Room := { frames := 2, cells := 0, slots := 0, locals := 42 }
set_option maxHeartbeats 400000 in
theorem k_X4_house_nk (l : Launch) (g : GG) (A : Nat → Prop) (ad : Nat → Nat → Nat) (x : St) (hok : okM x) (k : Nat) (hk : k < 25) (a1 a2 : Int32) (h1 : inF a1 1 4 = 1) (w : Int32) (hw : why_house_k x k = w) (hw0 : ¬ w = 0) : Met l yX4_house (ws_ yX4_house cX4_house 5 (some .int)) rm_X4_house_nk (va_Pc [.ref (ad 30 0), .int (nI k), .int a1, .int a2] (mPre g A (mwM g ad x))) (pQi g A 0 (mwM g ad (sI x 0 0 w))) 0 0 A := by
  refine m_start RX4 rfl (by decide) (Nat.le_of_ble_eq_true rfl) ?_
  intro p e s m args below meth c hcf hr hlk hnm hE hA H locs hM hS ls hl
  have hx := hcf.1
  have hb := hcf.2.1
  have hml := hcf.2.2.1
  have hown := hcf.2.2.2.1
  have hts := hcf.2.2.2.2
  have hl : lv_has ls 5 [(0, .ref (ad 30 0)), (1, .int (nI k)), (2, .int a1), (3, .int a2)] := hl
  generalize hQ : MQ below (pQi g A 0 (mwM g ad (sI x 0 0 w))) args s 0 0 A = Q
  refine lv_iload_n hx hb dX4_house_0 rfl (lv_at hl 1 rfl) ?_
  refine m_cpi (m_rS (As := [.int (nI k)]) (rest := []) hcf (k_X4_isCell l g A (mwM g ad x) (nI k)) (va_cwS 1 hts (lw_S q1041 q1042 q41 q1043) rfl rfl rfl (by decide +kernel) ⟨Nat.le_of_ble_eq_true rfl, Nat.le_of_ble_eq_true rfl⟩) hE hA hM hS rfl hl.1 rfl (Nat.le_of_ble_eq_true rfl) dX4_house_1 ⟨Nat.le_of_ble_eq_true rfl, Nat.le_of_ble_eq_true rfl⟩) hS (fun H locs hM hS => ?_)
  refine m_topI (y := 1) (inF_cell hk) ?_
  refine lv_if_eq (tgt := 20) hx hb dX4_house_4 (by decide) (fun c9 => absurd c9 (by decide)) (fun _ => ?_)
  refine lv_iload_n hx hb dX4_house_7 rfl (lv_at hl 2 rfl) ?_
  refine lv_iconst (v := 1) hx hb dX4_house_8 (by decide) ?_
  refine lv_iconst (v := 4) hx hb dX4_house_9 (by decide) ?_
  refine m_cpi (m_rS (As := [.int a1, .int 1, .int 4]) (rest := []) hcf (k_X4_within l g A (mwM g ad x) a1 1 4) (va_cwS 3 hts (lw_S q1044 q1045 q41 q1046) rfl rfl rfl (by decide +kernel) ⟨Nat.le_of_ble_eq_true rfl, Nat.le_of_ble_eq_true rfl⟩) hE hA hM hS rfl hl.1 rfl (Nat.le_of_ble_eq_true rfl) dX4_house_10 ⟨Nat.le_of_ble_eq_true rfl, Nat.le_of_ble_eq_true rfl⟩) hS (fun H locs hM hS => ?_)
  refine m_topI (y := 1) (h1) ?_
  refine lv_if_eq (tgt := 20) hx hb dX4_house_13 (by decide) (fun c9 => absurd c9 (by decide)) (fun _ => ?_)
  refine lv_iconst (v := 1) hx hb dX4_house_16 (by decide) ?_
  refine lv_goto (tgt := 21) hx hb dX4_house_17 (by decide) ?_
  refine lv_istore (lv' := [(4, .int 1), (0, .ref (ad 30 0)), (1, .int (nI k)), (2, .int a1), (3, .int a2)]) hx hb dX4_house_21 hl (by decide) rfl (fun ls hl => ?_)
  refine lv_aload_n hx hb dX4_house_23 rfl (lv_at hl 1 rfl) ?_
  refine lv_iload hx hb dX4_house_24 (lv_at hl 0 rfl) ?_
  refine lv_if_ne (tgt := 33) hx hb dX4_house_26 (by decide) (fun _ => ?_) (fun c9 => absurd c9 (by decide))
  refine lv_aload_n hx hb dX4_house_33 rfl (lv_at hl 1 rfl) ?_
  refine lv_iload_n hx hb dX4_house_34 rfl (lv_at hl 2 rfl) ?_
  refine m_cpi (m_rV (As := [.int (nI k)]) (rest := [.ref (ad 30 0)]) hcf (k_X4_houseIn l g A ad x hok k) (cwV 1 hts (lw_V q1125 q1127 qs28 q41 q1128) rfl rfl rfl (by decide +kernel) ⟨Nat.le_of_ble_eq_true rfl, Nat.le_of_ble_eq_true rfl⟩) hE hA hM hS 30 0 (mwM_o g ad _) (ci := 1) rfl rfl hl.1 rfl (Nat.le_of_ble_eq_true rfl) dX4_house_35 ⟨Nat.le_of_ble_eq_true rfl, Nat.le_of_ble_eq_true rfl⟩) hS (fun H locs hM hS => ?_)
  refine lv_iconst (v := (-1)) hx hb dX4_house_38 (by decide) ?_
  have J_19 : ∀ (H : Heap) (locs : List Loc) (v_17 : Int32), mW g.1 A (mwM g ad x) H → va_S A s.heap H locs → ((if (hoiF x k (nt x 13 0)) = (-1) then (if (lakF x k) = 0 then (if (nI (nt x 13 0)) = 10 then 2 else 0) else 2) else 2) = v_17) → W p l e rm_X4_house_nk s m args below meth c H locs 0 0 Q (F0 m 64 ls [.int v_17, .ref (ad 30 0)]) := by
    intro H locs v_17 hM hS ev_18
    refine m_topI (y := w) ((by subst ev_18; exact hw)) ?_
    refine m_cpi (m_rV (As := [.int w]) (rest := []) hcf (k_X4_refused l g A ad x w) (cwV 1 hts (lw_V q1047 q1049 qs16 q41 q1050) rfl rfl rfl (by decide +kernel) ⟨Nat.le_of_ble_eq_true rfl, Nat.le_of_ble_eq_true rfl⟩) hE hA hM hS 30 0 (mwM_o g ad _) (ci := 1) rfl rfl hl.1 rfl (Nat.le_of_ble_eq_true rfl) dX4_house_64 ⟨Nat.le_of_ble_eq_true rfl, Nat.le_of_ble_eq_true rfl⟩) hS (fun H locs hM hS => ?_)
    obtain ⟨x_22, ex_23⟩ : ∃ z : St, sI x 0 0 w = z := ⟨_, rfl⟩
    rw [ex_23] at hM
    refine lv_if_eq (tgt := 72) hx hb dX4_house_67 (by decide) (fun c9 => absurd c9 (refF_ne hw0)) (fun _ => ?_)
    refine lv_iconst (v := 0) hx hb dX4_house_70 (by decide) ?_
    rw [← hQ]
    exact m_iret () hx hb hr rfl hlk (by have hF : x_22 = sI x 0 0 w := (by subst ex_23 ev_18; first | rfl); rw [← hF]; exact hM) hS (by subst ex_23 ev_18; first | rfl) (by first | decide | omega) (by first | decide | omega) dX4_house_71
  refine lv_icmp_ne (tgt := 59) hx hb dX4_house_39 (by decide) (fun c_11 => ?_) (fun c_11 => ?_)
  · refine lv_iconst (v := 2) hx hb dX4_house_59 (by decide) ?_
    refine lv_goto (tgt := 64) hx hb dX4_house_60 (by decide) ?_
    exact J_19 H locs _ hM hS (by first | rfl | (rw [if_neg c_11]) | (simp only [c_11, if_true, if_false, ite_true, ite_false, not_false_eq_true, reduceIte]))
  · refine lv_aload_n hx hb dX4_house_42 rfl (lv_at hl 1 rfl) ?_
    refine lv_iload_n hx hb dX4_house_43 rfl (lv_at hl 2 rfl) ?_
    refine m_cpi (m_rV (As := [.int (nI k)]) (rest := [.ref (ad 30 0)]) hcf (k_X4_isLake l g A ad x k (by omega)) (cwV 1 hts (lw_V q1074 q1076 qs20 q41 q1077) rfl rfl rfl (by decide +kernel) ⟨Nat.le_of_ble_eq_true rfl, Nat.le_of_ble_eq_true rfl⟩) hE hA hM hS 30 0 (mwM_o g ad _) (ci := 1) rfl rfl hl.1 rfl (Nat.le_of_ble_eq_true rfl) dX4_house_44 ⟨Nat.le_of_ble_eq_true rfl, Nat.le_of_ble_eq_true rfl⟩) hS (fun H locs hM hS => ?_)
    refine lv_if_ne (tgt := 59) hx hb dX4_house_47 (by decide) (fun c_15 => ?_) (fun c_15 => ?_)
    · refine lv_iconst (v := 2) hx hb dX4_house_59 (by decide) ?_
      refine lv_goto (tgt := 64) hx hb dX4_house_60 (by decide) ?_
      exact J_19 H locs _ hM hS (by first | rfl | (rw [if_pos c_11, if_neg c_15]) | (simp only [c_11, c_15, if_true, if_false, ite_true, ite_false, not_false_eq_true, reduceIte]))
    · refine lv_aload_n hx hb dX4_house_50 rfl (lv_at hl 1 rfl) ?_
      refine mm_get hcf hE hM 13 (by decide) q949 rfl rfl dX4_house_51 ?_
      refine m_topI (y := nI (nt x 13 0)) ((by exact hok.h13.1)) ?_
      refine lv_bipush (v := 10) hx hb dX4_house_54 (by decide) ?_
      refine lv_icmp_ne (tgt := 63) hx hb dX4_house_56 (by decide) (fun c_16 => ?_) (fun c_16 => ?_)
      · refine lv_iconst (v := 0) hx hb dX4_house_63 (by decide) ?_
        exact J_19 H locs _ hM hS (by first | rfl | (rw [if_pos c_11, if_pos c_15, if_neg c_16]) | (simp only [c_11, c_15, c_16, if_true, if_false, ite_true, ite_false, not_false_eq_true, reduceIte]))
      · refine lv_iconst (v := 2) hx hb dX4_house_59 (by decide) ?_
        refine lv_goto (tgt := 64) hx hb dX4_house_60 (by decide) ?_
        exact J_19 H locs _ hM hS (by first | rfl | (rw [if_pos c_11, if_pos c_15, if_pos c_16]) | (simp only [c_11, c_15, c_16, if_true, if_false, ite_true, ite_false, not_false_eq_true, reduceIte]))


def why_house_k2 (x : St) (k : Nat) : Int32 := (if (hoiF x k (nt x 13 0)) = (-1) then (if (lakF x k) = 0 then (if (nI (nt x 13 0)) = 10 then 2 else 0) else 2) else 2 : Int32)
abbrev rm_X4_house_ok : Room := { frames := 2, cells := 0, slots := 0, locals := 42 }
set_option maxHeartbeats 400000 in
theorem k_X4_house_ok (l : Launch) (g : GG) (A : Nat → Prop) (ad : Nat → Nat → Nat) (x : St) (hok : okM x) (k : Nat) (hk : k < 25) (a1 a2 : Int32) (h1 : inF a1 1 4 = 1) (hz : vp_nar .boolean a2 = a2) (hlt : nt x 13 0 < 10) (hw : why_house_k2 x k = 0) : Met l yX4_house (ws_ yX4_house cX4_house 5 (some .int)) rm_X4_house_ok (va_Pc [.ref (ad 30 0), .int (nI k), .int a1, .int a2] (mPre g A (mwM g ad x))) (pQi g A (nI (nt x 13 0 + 1) - 1) (mwM g ad (housF (sI x 0 0 0) k a1 a2))) 0 0 A := by
  refine m_start RX4 rfl (by decide) (Nat.le_of_ble_eq_true rfl) ?_
  intro p e s m args below meth c hcf hr hlk hnm hE hA H locs hM hS ls hl
  have hx := hcf.1
  have hb := hcf.2.1
  have hml := hcf.2.2.1
  have hown := hcf.2.2.2.1
  have hts := hcf.2.2.2.2
  have hl : lv_has ls 5 [(0, .ref (ad 30 0)), (1, .int (nI k)), (2, .int a1), (3, .int a2)] := hl
  have hb13 : nt x 13 0 < 11 := hok.h13.2
  have hb19 : nt x 19 0 < 11 := hok.h19.2
  have hb24 : nt x 24 0 < 41 := hok.h24.2
  have hb1 : nt x 1 0 < 601 := hok.h1.2
  generalize hQ : MQ below (pQi g A (nI (nt x 13 0 + 1) - 1) (mwM g ad (housF (sI x 0 0 0) k a1 a2))) args s 0 0 A = Q
  refine lv_iload_n hx hb dX4_house_0 rfl (lv_at hl 1 rfl) ?_
  refine m_cpi (m_rS (As := [.int (nI k)]) (rest := []) hcf (k_X4_isCell l g A (mwM g ad x) (nI k)) (va_cwS 1 hts (lw_S q1041 q1042 q41 q1043) rfl rfl rfl (by decide +kernel) ⟨Nat.le_of_ble_eq_true rfl, Nat.le_of_ble_eq_true rfl⟩) hE hA hM hS rfl hl.1 rfl (Nat.le_of_ble_eq_true rfl) dX4_house_1 ⟨Nat.le_of_ble_eq_true rfl, Nat.le_of_ble_eq_true rfl⟩) hS (fun H locs hM hS => ?_)
  refine m_topI (y := 1) (inF_cell hk) ?_
  refine lv_if_eq (tgt := 20) hx hb dX4_house_4 (by decide) (fun c9 => absurd c9 (by decide)) (fun _ => ?_)
  refine lv_iload_n hx hb dX4_house_7 rfl (lv_at hl 2 rfl) ?_
  refine lv_iconst (v := 1) hx hb dX4_house_8 (by decide) ?_
  refine lv_iconst (v := 4) hx hb dX4_house_9 (by decide) ?_
  refine m_cpi (m_rS (As := [.int a1, .int 1, .int 4]) (rest := []) hcf (k_X4_within l g A (mwM g ad x) a1 1 4) (va_cwS 3 hts (lw_S q1044 q1045 q41 q1046) rfl rfl rfl (by decide +kernel) ⟨Nat.le_of_ble_eq_true rfl, Nat.le_of_ble_eq_true rfl⟩) hE hA hM hS rfl hl.1 rfl (Nat.le_of_ble_eq_true rfl) dX4_house_10 ⟨Nat.le_of_ble_eq_true rfl, Nat.le_of_ble_eq_true rfl⟩) hS (fun H locs hM hS => ?_)
  refine m_topI (y := 1) (h1) ?_
  refine lv_if_eq (tgt := 20) hx hb dX4_house_13 (by decide) (fun c9 => absurd c9 (by decide)) (fun _ => ?_)
  refine lv_iconst (v := 1) hx hb dX4_house_16 (by decide) ?_
  refine lv_goto (tgt := 21) hx hb dX4_house_17 (by decide) ?_
  refine lv_istore (lv' := [(4, .int 1), (0, .ref (ad 30 0)), (1, .int (nI k)), (2, .int a1), (3, .int a2)]) hx hb dX4_house_21 hl (by decide) rfl (fun ls hl => ?_)
  refine lv_aload_n hx hb dX4_house_23 rfl (lv_at hl 1 rfl) ?_
  refine lv_iload hx hb dX4_house_24 (lv_at hl 0 rfl) ?_
  refine lv_if_ne (tgt := 33) hx hb dX4_house_26 (by decide) (fun _ => ?_) (fun c9 => absurd c9 (by decide))
  refine lv_aload_n hx hb dX4_house_33 rfl (lv_at hl 1 rfl) ?_
  refine lv_iload_n hx hb dX4_house_34 rfl (lv_at hl 2 rfl) ?_
  refine m_cpi (m_rV (As := [.int (nI k)]) (rest := [.ref (ad 30 0)]) hcf (k_X4_houseIn l g A ad x hok k) (cwV 1 hts (lw_V q1125 q1127 qs28 q41 q1128) rfl rfl rfl (by decide +kernel) ⟨Nat.le_of_ble_eq_true rfl, Nat.le_of_ble_eq_true rfl⟩) hE hA hM hS 30 0 (mwM_o g ad _) (ci := 1) rfl rfl hl.1 rfl (Nat.le_of_ble_eq_true rfl) dX4_house_35 ⟨Nat.le_of_ble_eq_true rfl, Nat.le_of_ble_eq_true rfl⟩) hS (fun H locs hM hS => ?_)
  refine lv_iconst (v := (-1)) hx hb dX4_house_38 (by decide) ?_
  have J_19 : ∀ (H : Heap) (locs : List Loc) (v_17 : Int32), mW g.1 A (mwM g ad x) H → va_S A s.heap H locs → ((if (hoiF x k (nt x 13 0)) = (-1) then (if (lakF x k) = 0 then (if (nI (nt x 13 0)) = 10 then 2 else 0) else 2) else 2) = v_17) → W p l e rm_X4_house_ok s m args below meth c H locs 0 0 Q (F0 m 64 ls [.int v_17, .ref (ad 30 0)]) := by
    intro H locs v_17 hM hS ev_18
    refine m_topI (y := 0) ((by subst ev_18; exact hw)) ?_
    refine m_cpi (m_rV (As := [.int 0]) (rest := []) hcf (k_X4_refused l g A ad x 0) (cwV 1 hts (lw_V q1047 q1049 qs16 q41 q1050) rfl rfl rfl (by decide +kernel) ⟨Nat.le_of_ble_eq_true rfl, Nat.le_of_ble_eq_true rfl⟩) hE hA hM hS 30 0 (mwM_o g ad _) (ci := 1) rfl rfl hl.1 rfl (Nat.le_of_ble_eq_true rfl) dX4_house_64 ⟨Nat.le_of_ble_eq_true rfl, Nat.le_of_ble_eq_true rfl⟩) hS (fun H locs hM hS => ?_)
    obtain ⟨x_22, ex_23⟩ : ∃ z : St, sI x 0 0 0 = z := ⟨_, rfl⟩
    rw [ex_23] at hM
    refine m_topI (y := 0) (by decide) ?_
    refine lv_if_eq (tgt := 72) hx hb dX4_house_67 (by decide) (fun _ => ?_) (fun c9 => absurd (by decide) c9)
    refine lv_aload_n hx hb dX4_house_72 rfl (lv_at hl 1 rfl) ?_
    refine mm_get hcf hE hM 14 (by decide) q950 rfl rfl dX4_house_73 ?_
    refine lv_aload_n hx hb dX4_house_76 rfl (lv_at hl 1 rfl) ?_
    refine mm_get hcf hE hM 13 (by decide) q949 rfl rfl dX4_house_77 ?_
    refine m_topI (y := nI (nt x 13 0)) ((by subst ex_23 ev_18; exact hok.h13.1)) ?_
    refine lv_iload_n hx hb dX4_house_80 rfl (lv_at hl 2 rfl) ?_
    refine mm_ast hcf hE hM hS 14 rfl (by decide) (nt x 13 0) (by show _ < 10; omega) rfl dX4_house_81 (fun x_25 H locs ex_26 hM hS => ?_)
    refine lv_aload_n hx hb dX4_house_82 rfl (lv_at hl 1 rfl) ?_
    refine mm_get hcf hE hM 15 (by decide) q951 rfl rfl dX4_house_83 ?_
    refine lv_aload_n hx hb dX4_house_86 rfl (lv_at hl 1 rfl) ?_
    refine mm_get hcf hE hM 13 (by decide) q949 rfl rfl dX4_house_87 ?_
    refine m_topI (y := nI (nt x 13 0)) ((by subst ex_26 ex_23 ev_18; exact hok.h13.1)) ?_
    refine lv_iload_n hx hb dX4_house_90 rfl (lv_at hl 3 rfl) ?_
    refine mm_ast hcf hE hM hS 15 rfl (by decide) (nt x 13 0) (by show _ < 10; omega) rfl dX4_house_91 (fun x_27 H locs ex_28 hM hS => ?_)
    refine lv_aload_n hx hb dX4_house_92 rfl (lv_at hl 1 rfl) ?_
    refine mm_get hcf hE hM 16 (by decide) q952 rfl rfl dX4_house_93 ?_
    refine lv_aload_n hx hb dX4_house_96 rfl (lv_at hl 1 rfl) ?_
    refine mm_get hcf hE hM 13 (by decide) q949 rfl rfl dX4_house_97 ?_
    refine m_topI (y := nI (nt x 13 0)) ((by subst ex_28 ex_26 ex_23 ev_18; exact hok.h13.1)) ?_
    refine lv_iload_n hx hb dX4_house_100 rfl (lv_at hl 4 rfl) ?_
    refine mm_zast hcf hE hM hS (nt x 13 0) (by omega) (hz) rfl dX4_house_101 (fun x_29 H locs ex_30 hM hS => ?_)
    refine lv_aload_n hx hb dX4_house_102 rfl (lv_at hl 1 rfl) ?_
    refine mm_get hcf hE hM 18 (by decide) q954 rfl rfl dX4_house_103 ?_
    refine lv_aload_n hx hb dX4_house_106 rfl (lv_at hl 1 rfl) ?_
    refine mm_get hcf hE hM 13 (by decide) q949 rfl rfl dX4_house_107 ?_
    refine m_topI (y := nI (nt x 13 0)) ((by subst ex_30 ex_28 ex_26 ex_23 ev_18; exact hok.h13.1)) ?_
    refine lv_aload_n hx hb dX4_house_110 rfl (lv_at hl 1 rfl) ?_
    refine mm_get hcf hE hM 1 (by decide) q937 rfl rfl dX4_house_111 ?_
    refine m_topI (y := nI (nt x 1 0)) ((by subst ex_30 ex_28 ex_26 ex_23 ev_18; exact hok.h1.1)) ?_
    refine mm_ast hcf hE hM hS 18 rfl (by decide) (nt x 13 0) (by show _ < 10; omega) rfl dX4_house_114 (fun x_31 H locs ex_32 hM hS => ?_)
    refine lv_aload_n hx hb dX4_house_115 rfl (lv_at hl 1 rfl) ?_
    refine lv_dup hx hb dX4_house_116 rfl ?_
    refine mm_get hcf hE hM 13 (by decide) q949 rfl rfl dX4_house_117 ?_
    refine m_topI (y := nI (nt x 13 0)) ((by subst ex_32 ex_30 ex_28 ex_26 ex_23 ev_18; exact hok.h13.1)) ?_
    refine lv_iconst (v := 1) hx hb dX4_house_120 (by decide) ?_
    refine lv_iadd hx hb dX4_house_121 ?_
    refine m_topI (y := nI (nt x 13 0 + 1)) (nI_add (nt x 13 0) 1) ?_
    refine mm_puti hcf hE hM hS 13 (by decide) rfl q949 rfl rfl rfl (nI (nt x 13 0 + 1)) rfl dX4_house_122 (fun x_33 H locs ex_34 hM hS => ?_)
    refine lv_aload_n hx hb dX4_house_125 rfl (lv_at hl 1 rfl) ?_
    refine mm_get hcf hE hM 13 (by decide) q949 rfl rfl dX4_house_126 ?_
    refine lv_iconst (v := 1) hx hb dX4_house_129 (by decide) ?_
    refine lv_isub hx hb dX4_house_130 ?_
    rw [← hQ]
    exact m_iret () hx hb hr rfl hlk (by have hF : x_33 = housF (sI x 0 0 0) k a1 a2 := (by subst ex_34 ex_32 ex_30 ex_28 ex_26 ex_23 ev_18; first | rfl); rw [← hF]; exact hM) hS (by subst ex_34 ex_32 ex_30 ex_28 ex_26 ex_23 ev_18; first | rfl) (by first | decide | omega) (by first | decide | omega) dX4_house_131
  refine lv_icmp_ne (tgt := 59) hx hb dX4_house_39 (by decide) (fun c_11 => ?_) (fun c_11 => ?_)
  · refine lv_iconst (v := 2) hx hb dX4_house_59 (by decide) ?_
    refine lv_goto (tgt := 64) hx hb dX4_house_60 (by decide) ?_
    exact J_19 H locs _ hM hS (by first | rfl | (rw [if_neg c_11]) | (simp only [c_11, if_true, if_false, ite_true, ite_false, not_false_eq_true, reduceIte]))
  · refine lv_aload_n hx hb dX4_house_42 rfl (lv_at hl 1 rfl) ?_
    refine lv_iload_n hx hb dX4_house_43 rfl (lv_at hl 2 rfl) ?_
    refine m_cpi (m_rV (As := [.int (nI k)]) (rest := [.ref (ad 30 0)]) hcf (k_X4_isLake l g A ad x k (by omega)) (cwV 1 hts (lw_V q1074 q1076 qs20 q41 q1077) rfl rfl rfl (by decide +kernel) ⟨Nat.le_of_ble_eq_true rfl, Nat.le_of_ble_eq_true rfl⟩) hE hA hM hS 30 0 (mwM_o g ad _) (ci := 1) rfl rfl hl.1 rfl (Nat.le_of_ble_eq_true rfl) dX4_house_44 ⟨Nat.le_of_ble_eq_true rfl, Nat.le_of_ble_eq_true rfl⟩) hS (fun H locs hM hS => ?_)
    refine lv_if_ne (tgt := 59) hx hb dX4_house_47 (by decide) (fun c_15 => ?_) (fun c_15 => ?_)
    · refine lv_iconst (v := 2) hx hb dX4_house_59 (by decide) ?_
      refine lv_goto (tgt := 64) hx hb dX4_house_60 (by decide) ?_
      exact J_19 H locs _ hM hS (by first | rfl | (rw [if_pos c_11, if_neg c_15]) | (simp only [c_11, c_15, if_true, if_false, ite_true, ite_false, not_false_eq_true, reduceIte]))
    · refine lv_aload_n hx hb dX4_house_50 rfl (lv_at hl 1 rfl) ?_
      refine mm_get hcf hE hM 13 (by decide) q949 rfl rfl dX4_house_51 ?_
      refine m_topI (y := nI (nt x 13 0)) ((by exact hok.h13.1)) ?_
      refine lv_bipush (v := 10) hx hb dX4_house_54 (by decide) ?_
      refine lv_icmp_ne (tgt := 63) hx hb dX4_house_56 (by decide) (fun c_16 => ?_) (fun c_16 => ?_)
      · refine lv_iconst (v := 0) hx hb dX4_house_63 (by decide) ?_
        exact J_19 H locs _ hM hS (by first | rfl | (rw [if_pos c_11, if_pos c_15, if_neg c_16]) | (simp only [c_11, c_15, c_16, if_true, if_false, ite_true, ite_false, not_false_eq_true, reduceIte]))
      · refine lv_iconst (v := 2) hx hb dX4_house_59 (by decide) ?_
        refine lv_goto (tgt := 64) hx hb dX4_house_60 (by decide) ?_
        exact J_19 H locs _ hM hS (by first | rfl | (rw [if_pos c_11, if_pos c_15, if_pos c_16]) | (simp only [c_11, c_15, c_16, if_true, if_false, ite_true, ite_false, not_false_eq_true, reduceIte]))


def why_borehole (x : St) (a0 a1 : Int32) : Int32 := (if (inF a0 0 24) = 0 then 1 else (if (inF a1 (-12) 12) = 0 then 2 else (if (nI (nt x 19 0)) = 10 then 3 else 0)) : Int32)
abbrev rm_X4_borehole_no : Room := { frames := 2, cells := 0, slots := 0, locals := 42 }
set_option maxHeartbeats 400000 in
theorem k_X4_borehole_no (l : Launch) (g : GG) (A : Nat → Prop) (ad : Nat → Nat → Nat) (x : St) (hok : okM x) (a0 a1 : Int32) (w : Int32) (hw : why_borehole x a0 a1 = w) (hw0 : ¬ w = 0) : Met l yX4_borehole (ws_ yX4_borehole cX4_borehole 3 (some .int)) rm_X4_borehole_no (va_Pc [.ref (ad 30 0), .int a0, .int a1] (mPre g A (mwM g ad x))) (pQi g A 0 (mwM g ad (sI x 0 0 w))) 0 0 A := by
  refine m_start RX4 rfl (by decide) (Nat.le_of_ble_eq_true rfl) ?_
  intro p e s m args below meth c hcf hr hlk hnm hE hA H locs hM hS ls hl
  have hx := hcf.1
  have hb := hcf.2.1
  have hml := hcf.2.2.1
  have hown := hcf.2.2.2.1
  have hts := hcf.2.2.2.2
  have hl : lv_has ls 3 [(0, .ref (ad 30 0)), (1, .int a0), (2, .int a1)] := hl
  generalize hQ : MQ below (pQi g A 0 (mwM g ad (sI x 0 0 w))) args s 0 0 A = Q
  refine lv_aload_n hx hb dX4_borehole_0 rfl (lv_at hl 0 rfl) ?_
  refine lv_iload_n hx hb dX4_borehole_1 rfl (lv_at hl 1 rfl) ?_
  refine m_cpi (m_rS (As := [.int a0]) (rest := [.ref (ad 30 0)]) hcf (k_X4_isCell l g A (mwM g ad x) a0) (va_cwS 1 hts (lw_S q1041 q1042 q41 q1043) rfl rfl rfl (by decide +kernel) ⟨Nat.le_of_ble_eq_true rfl, Nat.le_of_ble_eq_true rfl⟩) hE hA hM hS rfl hl.1 rfl (Nat.le_of_ble_eq_true rfl) dX4_borehole_2 ⟨Nat.le_of_ble_eq_true rfl, Nat.le_of_ble_eq_true rfl⟩) hS (fun H locs hM hS => ?_)
  have J_12 : ∀ (H : Heap) (locs : List Loc) (v_10 : Int32), mW g.1 A (mwM g ad x) H → va_S A s.heap H locs → ((if (inF a0 0 24) = 0 then 1 else (if (inF a1 (-12) 12) = 0 then 2 else (if (nI (nt x 19 0)) = 10 then 3 else 0))) = v_10) → W p l e rm_X4_borehole_no s m args below meth c H locs 0 0 Q (F0 m 41 ls [.int v_10, .ref (ad 30 0)]) := by
    intro H locs v_10 hM hS ev_11
    refine m_topI (y := w) ((by subst ev_11; exact hw)) ?_
    refine m_cpi (m_rV (As := [.int w]) (rest := []) hcf (k_X4_refused l g A ad x w) (cwV 1 hts (lw_V q1047 q1049 qs16 q41 q1050) rfl rfl rfl (by decide +kernel) ⟨Nat.le_of_ble_eq_true rfl, Nat.le_of_ble_eq_true rfl⟩) hE hA hM hS 30 0 (mwM_o g ad _) (ci := 1) rfl rfl hl.1 rfl (Nat.le_of_ble_eq_true rfl) dX4_borehole_41 ⟨Nat.le_of_ble_eq_true rfl, Nat.le_of_ble_eq_true rfl⟩) hS (fun H locs hM hS => ?_)
    obtain ⟨x_15, ex_16⟩ : ∃ z : St, sI x 0 0 w = z := ⟨_, rfl⟩
    rw [ex_16] at hM
    refine lv_if_eq (tgt := 49) hx hb dX4_borehole_44 (by decide) (fun c9 => absurd c9 (refF_ne hw0)) (fun _ => ?_)
    refine lv_iconst (v := 0) hx hb dX4_borehole_47 (by decide) ?_
    rw [← hQ]
    exact m_iret () hx hb hr rfl hlk (by have hF : x_15 = sI x 0 0 w := (by subst ex_16 ev_11; first | rfl); rw [← hF]; exact hM) hS (by subst ex_16 ev_11; first | rfl) (by first | decide | omega) (by first | decide | omega) dX4_borehole_48
  refine lv_if_ne (tgt := 12) hx hb dX4_borehole_5 (by decide) (fun c_4 => ?_) (fun c_4 => ?_)
  · refine lv_iload_n hx hb dX4_borehole_12 rfl (lv_at hl 2 rfl) ?_
    refine lv_bipush (v := (-12)) hx hb dX4_borehole_13 (by decide) ?_
    refine lv_bipush (v := 12) hx hb dX4_borehole_15 (by decide) ?_
    refine m_cpi (m_rS (As := [.int a1, .int (-12), .int 12]) (rest := [.ref (ad 30 0)]) hcf (k_X4_within l g A (mwM g ad x) a1 (-12) 12) (va_cwS 3 hts (lw_S q1044 q1045 q41 q1046) rfl rfl rfl (by decide +kernel) ⟨Nat.le_of_ble_eq_true rfl, Nat.le_of_ble_eq_true rfl⟩) hE hA hM hS rfl hl.1 rfl (Nat.le_of_ble_eq_true rfl) dX4_borehole_17 ⟨Nat.le_of_ble_eq_true rfl, Nat.le_of_ble_eq_true rfl⟩) hS (fun H locs hM hS => ?_)
    refine lv_if_ne (tgt := 27) hx hb dX4_borehole_20 (by decide) (fun c_8 => ?_) (fun c_8 => ?_)
    · refine lv_aload_n hx hb dX4_borehole_27 rfl (lv_at hl 0 rfl) ?_
      refine mm_get hcf hE hM 19 (by decide) q955 rfl rfl dX4_borehole_28 ?_
      refine m_topI (y := nI (nt x 19 0)) ((by exact hok.h19.1)) ?_
      refine lv_bipush (v := 10) hx hb dX4_borehole_31 (by decide) ?_
      refine lv_icmp_ne (tgt := 40) hx hb dX4_borehole_33 (by decide) (fun c_9 => ?_) (fun c_9 => ?_)
      · refine lv_iconst (v := 0) hx hb dX4_borehole_40 (by decide) ?_
        exact J_12 H locs _ hM hS (by first | rfl | (rw [if_neg c_4, if_neg c_8, if_neg c_9]) | (simp only [c_4, c_8, c_9, if_true, if_false, ite_true, ite_false, not_false_eq_true, reduceIte]))
      · refine lv_iconst (v := 3) hx hb dX4_borehole_36 (by decide) ?_
        refine lv_goto (tgt := 41) hx hb dX4_borehole_37 (by decide) ?_
        exact J_12 H locs _ hM hS (by first | rfl | (rw [if_neg c_4, if_neg c_8, if_pos c_9]) | (simp only [c_4, c_8, c_9, if_true, if_false, ite_true, ite_false, not_false_eq_true, reduceIte]))
    · refine lv_iconst (v := 2) hx hb dX4_borehole_23 (by decide) ?_
      refine lv_goto (tgt := 41) hx hb dX4_borehole_24 (by decide) ?_
      exact J_12 H locs _ hM hS (by first | rfl | (rw [if_neg c_4, if_pos c_8]) | (simp only [c_4, c_8, if_true, if_false, ite_true, ite_false, not_false_eq_true, reduceIte]))
  · refine lv_iconst (v := 1) hx hb dX4_borehole_8 (by decide) ?_
    refine lv_goto (tgt := 41) hx hb dX4_borehole_9 (by decide) ?_
    exact J_12 H locs _ hM hS (by first | rfl | (rw [if_pos c_4]) | (simp only [c_4, if_true, if_false, ite_true, ite_false, not_false_eq_true, reduceIte]))


def why_borehole_k (x : St) (a1 : Int32) : Int32 := (if (inF a1 (-12) 12) = 0 then 2 else (if (nI (nt x 19 0)) = 10 then 3 else 0) : Int32)
abbrev rm_X4_borehole_ok : Room := { frames := 2, cells := 0, slots := 0, locals := 42 }
set_option maxHeartbeats 400000 in
theorem k_X4_borehole_ok (l : Launch) (g : GG) (A : Nat → Prop) (ad : Nat → Nat → Nat) (x : St) (hok : okM x) (k : Nat) (hk : k < 25) (a1 : Int32) (hlt : nt x 19 0 < 10) (hw : why_borehole_k x a1 = 0) : Met l yX4_borehole (ws_ yX4_borehole cX4_borehole 3 (some .int)) rm_X4_borehole_ok (va_Pc [.ref (ad 30 0), .int (nI k), .int a1] (mPre g A (mwM g ad x))) (pQi g A (nI (nt x 19 0 + 1) - 1) (mwM g ad (borF (sI x 0 0 0) k a1))) 0 0 A := by
  refine m_start RX4 rfl (by decide) (Nat.le_of_ble_eq_true rfl) ?_
  intro p e s m args below meth c hcf hr hlk hnm hE hA H locs hM hS ls hl
  have hx := hcf.1
  have hb := hcf.2.1
  have hml := hcf.2.2.1
  have hown := hcf.2.2.2.1
  have hts := hcf.2.2.2.2
  have hl : lv_has ls 3 [(0, .ref (ad 30 0)), (1, .int (nI k)), (2, .int a1)] := hl
  have hb13 : nt x 13 0 < 11 := hok.h13.2
  have hb19 : nt x 19 0 < 11 := hok.h19.2
  have hb24 : nt x 24 0 < 41 := hok.h24.2
  have hb1 : nt x 1 0 < 601 := hok.h1.2
  generalize hQ : MQ below (pQi g A (nI (nt x 19 0 + 1) - 1) (mwM g ad (borF (sI x 0 0 0) k a1))) args s 0 0 A = Q
  refine lv_aload_n hx hb dX4_borehole_0 rfl (lv_at hl 0 rfl) ?_
  refine lv_iload_n hx hb dX4_borehole_1 rfl (lv_at hl 1 rfl) ?_
  refine m_cpi (m_rS (As := [.int (nI k)]) (rest := [.ref (ad 30 0)]) hcf (k_X4_isCell l g A (mwM g ad x) (nI k)) (va_cwS 1 hts (lw_S q1041 q1042 q41 q1043) rfl rfl rfl (by decide +kernel) ⟨Nat.le_of_ble_eq_true rfl, Nat.le_of_ble_eq_true rfl⟩) hE hA hM hS rfl hl.1 rfl (Nat.le_of_ble_eq_true rfl) dX4_borehole_2 ⟨Nat.le_of_ble_eq_true rfl, Nat.le_of_ble_eq_true rfl⟩) hS (fun H locs hM hS => ?_)
  refine m_topI (y := 1) (inF_cell hk) ?_
  refine lv_if_ne (tgt := 12) hx hb dX4_borehole_5 (by decide) (fun _ => ?_) (fun c9 => absurd c9 (by decide))
  refine lv_iload_n hx hb dX4_borehole_12 rfl (lv_at hl 2 rfl) ?_
  refine lv_bipush (v := (-12)) hx hb dX4_borehole_13 (by decide) ?_
  refine lv_bipush (v := 12) hx hb dX4_borehole_15 (by decide) ?_
  refine m_cpi (m_rS (As := [.int a1, .int (-12), .int 12]) (rest := [.ref (ad 30 0)]) hcf (k_X4_within l g A (mwM g ad x) a1 (-12) 12) (va_cwS 3 hts (lw_S q1044 q1045 q41 q1046) rfl rfl rfl (by decide +kernel) ⟨Nat.le_of_ble_eq_true rfl, Nat.le_of_ble_eq_true rfl⟩) hE hA hM hS rfl hl.1 rfl (Nat.le_of_ble_eq_true rfl) dX4_borehole_17 ⟨Nat.le_of_ble_eq_true rfl, Nat.le_of_ble_eq_true rfl⟩) hS (fun H locs hM hS => ?_)
  have J_11 : ∀ (v_9 : Int32), ((if (inF a1 (-12) 12) = 0 then 2 else (if (nI (nt x 19 0)) = 10 then 3 else 0)) = v_9) → W p l e rm_X4_borehole_ok s m args below meth c H locs 0 0 Q (F0 m 41 ls [.int v_9, .ref (ad 30 0)]) := by
    intro v_9 ev_10
    refine m_topI (y := 0) ((by subst ev_10; exact hw)) ?_
    refine m_cpi (m_rV (As := [.int 0]) (rest := []) hcf (k_X4_refused l g A ad x 0) (cwV 1 hts (lw_V q1047 q1049 qs16 q41 q1050) rfl rfl rfl (by decide +kernel) ⟨Nat.le_of_ble_eq_true rfl, Nat.le_of_ble_eq_true rfl⟩) hE hA hM hS 30 0 (mwM_o g ad _) (ci := 1) rfl rfl hl.1 rfl (Nat.le_of_ble_eq_true rfl) dX4_borehole_41 ⟨Nat.le_of_ble_eq_true rfl, Nat.le_of_ble_eq_true rfl⟩) hS (fun H locs hM hS => ?_)
    obtain ⟨x_14, ex_15⟩ : ∃ z : St, sI x 0 0 0 = z := ⟨_, rfl⟩
    rw [ex_15] at hM
    refine m_topI (y := 0) (by decide) ?_
    refine lv_if_eq (tgt := 49) hx hb dX4_borehole_44 (by decide) (fun _ => ?_) (fun c9 => absurd (by decide) c9)
    refine lv_aload_n hx hb dX4_borehole_49 rfl (lv_at hl 0 rfl) ?_
    refine mm_get hcf hE hM 20 (by decide) q956 rfl rfl dX4_borehole_50 ?_
    refine lv_aload_n hx hb dX4_borehole_53 rfl (lv_at hl 0 rfl) ?_
    refine mm_get hcf hE hM 19 (by decide) q955 rfl rfl dX4_borehole_54 ?_
    refine m_topI (y := nI (nt x 19 0)) ((by subst ex_15 ev_10; exact hok.h19.1)) ?_
    refine lv_iload_n hx hb dX4_borehole_57 rfl (lv_at hl 1 rfl) ?_
    refine mm_ast hcf hE hM hS 20 rfl (by decide) (nt x 19 0) (by show _ < 10; omega) rfl dX4_borehole_58 (fun x_17 H locs ex_18 hM hS => ?_)
    refine lv_aload_n hx hb dX4_borehole_59 rfl (lv_at hl 0 rfl) ?_
    refine mm_get hcf hE hM 21 (by decide) q957 rfl rfl dX4_borehole_60 ?_
    refine lv_aload_n hx hb dX4_borehole_63 rfl (lv_at hl 0 rfl) ?_
    refine mm_get hcf hE hM 19 (by decide) q955 rfl rfl dX4_borehole_64 ?_
    refine m_topI (y := nI (nt x 19 0)) ((by subst ex_18 ex_15 ev_10; exact hok.h19.1)) ?_
    refine lv_iload_n hx hb dX4_borehole_67 rfl (lv_at hl 2 rfl) ?_
    refine mm_ast hcf hE hM hS 21 rfl (by decide) (nt x 19 0) (by show _ < 10; omega) rfl dX4_borehole_68 (fun x_19 H locs ex_20 hM hS => ?_)
    refine lv_aload_n hx hb dX4_borehole_69 rfl (lv_at hl 0 rfl) ?_
    refine mm_get hcf hE hM 22 (by decide) q958 rfl rfl dX4_borehole_70 ?_
    refine lv_aload_n hx hb dX4_borehole_73 rfl (lv_at hl 0 rfl) ?_
    refine mm_get hcf hE hM 19 (by decide) q955 rfl rfl dX4_borehole_74 ?_
    refine m_topI (y := nI (nt x 19 0)) ((by subst ex_20 ex_18 ex_15 ev_10; exact hok.h19.1)) ?_
    refine lv_aload_n hx hb dX4_borehole_77 rfl (lv_at hl 0 rfl) ?_
    refine mm_get hcf hE hM 1 (by decide) q937 rfl rfl dX4_borehole_78 ?_
    refine m_topI (y := nI (nt x 1 0)) ((by subst ex_20 ex_18 ex_15 ev_10; exact hok.h1.1)) ?_
    refine mm_ast hcf hE hM hS 22 rfl (by decide) (nt x 19 0) (by show _ < 10; omega) rfl dX4_borehole_81 (fun x_21 H locs ex_22 hM hS => ?_)
    refine lv_aload_n hx hb dX4_borehole_82 rfl (lv_at hl 0 rfl) ?_
    refine lv_dup hx hb dX4_borehole_83 rfl ?_
    refine mm_get hcf hE hM 19 (by decide) q955 rfl rfl dX4_borehole_84 ?_
    refine m_topI (y := nI (nt x 19 0)) ((by subst ex_22 ex_20 ex_18 ex_15 ev_10; exact hok.h19.1)) ?_
    refine lv_iconst (v := 1) hx hb dX4_borehole_87 (by decide) ?_
    refine lv_iadd hx hb dX4_borehole_88 ?_
    refine m_topI (y := nI (nt x 19 0 + 1)) (nI_add (nt x 19 0) 1) ?_
    refine mm_puti hcf hE hM hS 19 (by decide) rfl q955 rfl rfl rfl (nI (nt x 19 0 + 1)) rfl dX4_borehole_89 (fun x_23 H locs ex_24 hM hS => ?_)
    refine lv_aload_n hx hb dX4_borehole_92 rfl (lv_at hl 0 rfl) ?_
    refine mm_get hcf hE hM 19 (by decide) q955 rfl rfl dX4_borehole_93 ?_
    refine lv_iconst (v := 1) hx hb dX4_borehole_96 (by decide) ?_
    refine lv_isub hx hb dX4_borehole_97 ?_
    rw [← hQ]
    exact m_iret () hx hb hr rfl hlk (by have hF : x_23 = borF (sI x 0 0 0) k a1 := (by subst ex_24 ex_22 ex_20 ex_18 ex_15 ev_10; first | rfl); rw [← hF]; exact hM) hS (by subst ex_24 ex_22 ex_20 ex_18 ex_15 ev_10; first | rfl) (by first | decide | omega) (by first | decide | omega) dX4_borehole_98
  refine lv_if_ne (tgt := 27) hx hb dX4_borehole_20 (by decide) (fun c_7 => ?_) (fun c_7 => ?_)
  · refine lv_aload_n hx hb dX4_borehole_27 rfl (lv_at hl 0 rfl) ?_
    refine mm_get hcf hE hM 19 (by decide) q955 rfl rfl dX4_borehole_28 ?_
    refine m_topI (y := nI (nt x 19 0)) ((by exact hok.h19.1)) ?_
    refine lv_bipush (v := 10) hx hb dX4_borehole_31 (by decide) ?_
    refine lv_icmp_ne (tgt := 40) hx hb dX4_borehole_33 (by decide) (fun c_8 => ?_) (fun c_8 => ?_)
    · refine lv_iconst (v := 0) hx hb dX4_borehole_40 (by decide) ?_
      exact J_11 _ (by first | rfl | (rw [if_neg c_7, if_neg c_8]) | (simp only [c_7, c_8, if_true, if_false, ite_true, ite_false, not_false_eq_true, reduceIte]))
    · refine lv_iconst (v := 3) hx hb dX4_borehole_36 (by decide) ?_
      refine lv_goto (tgt := 41) hx hb dX4_borehole_37 (by decide) ?_
      exact J_11 _ (by first | rfl | (rw [if_neg c_7, if_pos c_8]) | (simp only [c_7, c_8, if_true, if_false, ite_true, ite_false, not_false_eq_true, reduceIte]))
  · refine lv_iconst (v := 2) hx hb dX4_borehole_23 (by decide) ?_
    refine lv_goto (tgt := 41) hx hb dX4_borehole_24 (by decide) ?_
    exact J_11 _ (by first | rfl | (rw [if_pos c_7]) | (simp only [c_7, if_true, if_false, ite_true, ite_false, not_false_eq_true, reduceIte]))


def why_claim (x : St) (a0 : Int32) : Int32 := (if (inF a0 0 (nI (nt x 13 0) - 1)) = 0 then 1 else (if (nI (nt x 24 0)) = 40 then 2 else 0) : Int32)
abbrev rm_X4_claim_no : Room := { frames := 2, cells := 0, slots := 0, locals := 43 }
set_option maxHeartbeats 400000 in
theorem k_X4_claim_no (l : Launch) (g : GG) (A : Nat → Prop) (ad : Nat → Nat → Nat) (x : St) (hok : okM x) (a0 : Int32) (w : Int32) (hw : why_claim x a0 = w) (hw0 : ¬ w = 0) : Met l yX4_claim (ws_ yX4_claim cX4_claim 3 (some .int)) rm_X4_claim_no (va_Pc [.ref (ad 30 0), .int a0] (mPre g A (mwM g ad x))) (pQi g A 0 (mwM g ad (sI x 0 0 w))) 0 0 A := by
  refine m_start RX4 rfl (by decide) (Nat.le_of_ble_eq_true rfl) ?_
  intro p e s m args below meth c hcf hr hlk hnm hE hA H locs hM hS ls hl
  have hx := hcf.1
  have hb := hcf.2.1
  have hml := hcf.2.2.1
  have hown := hcf.2.2.2.1
  have hts := hcf.2.2.2.2
  have hl : lv_has ls 3 [(0, .ref (ad 30 0)), (1, .int a0)] := hl
  generalize hQ : MQ below (pQi g A 0 (mwM g ad (sI x 0 0 w))) args s 0 0 A = Q
  refine lv_aload_n hx hb dX4_claim_0 rfl (lv_at hl 0 rfl) ?_
  refine lv_iload_n hx hb dX4_claim_1 rfl (lv_at hl 1 rfl) ?_
  refine m_cpi (m_rV (As := [.int a0]) (rest := []) hcf (k_X4_isHouse l g A ad x hok a0) (cwV 1 hts (lw_V q1137 q1139 qs29 q41 q1140) rfl rfl rfl (by decide +kernel) ⟨Nat.le_of_ble_eq_true rfl, Nat.le_of_ble_eq_true rfl⟩) hE hA hM hS 30 0 (mwM_o g ad _) (ci := 1) rfl rfl hl.1 rfl (Nat.le_of_ble_eq_true rfl) dX4_claim_2 ⟨Nat.le_of_ble_eq_true rfl, Nat.le_of_ble_eq_true rfl⟩) hS (fun H locs hM hS => ?_)
  refine lv_istore_n (lv' := [(2, .int (inF a0 0 (nI (nt x 13 0) - 1))), (0, .ref (ad 30 0)), (1, .int a0)]) hx hb dX4_claim_5 rfl hl (by decide) rfl (fun ls hl => ?_)
  refine lv_aload_n hx hb dX4_claim_6 rfl (lv_at hl 1 rfl) ?_
  refine lv_iload_n hx hb dX4_claim_7 rfl (lv_at hl 0 rfl) ?_
  have J_9 : ∀ (v_7 : Int32), ((if (inF a0 0 (nI (nt x 13 0) - 1)) = 0 then 1 else (if (nI (nt x 24 0)) = 40 then 2 else 0)) = v_7) → W p l e rm_X4_claim_no s m args below meth c H locs 0 0 Q (F0 m 29 ls [.int v_7, .ref (ad 30 0)]) := by
    intro v_7 ev_8
    refine m_topI (y := w) ((by subst ev_8; exact hw)) ?_
    refine m_cpi (m_rV (As := [.int w]) (rest := []) hcf (k_X4_refused l g A ad x w) (cwV 1 hts (lw_V q1047 q1049 qs16 q41 q1050) rfl rfl rfl (by decide +kernel) ⟨Nat.le_of_ble_eq_true rfl, Nat.le_of_ble_eq_true rfl⟩) hE hA hM hS 30 0 (mwM_o g ad _) (ci := 1) rfl rfl hl.1 rfl (Nat.le_of_ble_eq_true rfl) dX4_claim_29 ⟨Nat.le_of_ble_eq_true rfl, Nat.le_of_ble_eq_true rfl⟩) hS (fun H locs hM hS => ?_)
    obtain ⟨x_12, ex_13⟩ : ∃ z : St, sI x 0 0 w = z := ⟨_, rfl⟩
    rw [ex_13] at hM
    refine lv_if_eq (tgt := 37) hx hb dX4_claim_32 (by decide) (fun c9 => absurd c9 (refF_ne hw0)) (fun _ => ?_)
    refine lv_iconst (v := 0) hx hb dX4_claim_35 (by decide) ?_
    rw [← hQ]
    exact m_iret () hx hb hr rfl hlk (by have hF : x_12 = sI x 0 0 w := (by subst ex_13 ev_8; first | rfl); rw [← hF]; exact hM) hS (by subst ex_13 ev_8; first | rfl) (by first | decide | omega) (by first | decide | omega) dX4_claim_36
  refine lv_if_ne (tgt := 15) hx hb dX4_claim_8 (by decide) (fun c_5 => ?_) (fun c_5 => ?_)
  · refine lv_aload_n hx hb dX4_claim_15 rfl (lv_at hl 1 rfl) ?_
    refine mm_get hcf hE hM 24 (by decide) q960 rfl rfl dX4_claim_16 ?_
    refine m_topI (y := nI (nt x 24 0)) ((by exact hok.h24.1)) ?_
    refine lv_bipush (v := 40) hx hb dX4_claim_19 (by decide) ?_
    refine lv_icmp_ne (tgt := 28) hx hb dX4_claim_21 (by decide) (fun c_6 => ?_) (fun c_6 => ?_)
    · refine lv_iconst (v := 0) hx hb dX4_claim_28 (by decide) ?_
      exact J_9 _ (by first | rfl | (rw [if_neg c_5, if_neg c_6]) | (simp only [c_5, c_6, if_true, if_false, ite_true, ite_false, not_false_eq_true, reduceIte]))
    · refine lv_iconst (v := 2) hx hb dX4_claim_24 (by decide) ?_
      refine lv_goto (tgt := 29) hx hb dX4_claim_25 (by decide) ?_
      exact J_9 _ (by first | rfl | (rw [if_neg c_5, if_pos c_6]) | (simp only [c_5, c_6, if_true, if_false, ite_true, ite_false, not_false_eq_true, reduceIte]))
  · refine lv_iconst (v := 1) hx hb dX4_claim_11 (by decide) ?_
    refine lv_goto (tgt := 29) hx hb dX4_claim_12 (by decide) ?_
    exact J_9 _ (by first | rfl | (rw [if_pos c_5]) | (simp only [c_5, if_true, if_false, ite_true, ite_false, not_false_eq_true, reduceIte]))


def why_claim_k (x : St) (h : Nat) : Int32 := (if (inF (nI h) 0 (nI (nt x 13 0) - 1)) = 0 then 1 else (if (nI (nt x 24 0)) = 40 then 2 else 0) : Int32)
abbrev rm_X4_claim_ok : Room := { frames := 2, cells := 0, slots := 0, locals := 47 }
set_option maxHeartbeats 400000 in
theorem k_X4_claim_ok (l : Launch) (g : GG) (A : Nat → Prop) (ad : Nat → Nat → Nat) (x : St) (hok : okM x) (h : Nat) (hh : h < nt x 13 0) (hbu : nt x 18 h ≤ nt x 1 0) (hlt : nt x 24 0 < 40) (hw : why_claim_k x h = 0) : Met l yX4_claim (ws_ yX4_claim cX4_claim 3 (some .int)) rm_X4_claim_ok (va_Pc [.ref (ad 30 0), .int (nI h)] (mPre g A (mwM g ad x))) (pQi g A (nI (nt x 24 0 + 1) - 1) (mwM g ad (clmF (sI x 0 0 0) h))) 0 0 A := by
  refine m_start RX4 rfl (by decide) (Nat.le_of_ble_eq_true rfl) ?_
  intro p e s m args below meth c hcf hr hlk hnm hE hA H locs hM hS ls hl
  have hx := hcf.1
  have hb := hcf.2.1
  have hml := hcf.2.2.1
  have hown := hcf.2.2.2.1
  have hts := hcf.2.2.2.2
  have hl : lv_has ls 3 [(0, .ref (ad 30 0)), (1, .int (nI h))] := hl
  have hb13 : nt x 13 0 < 11 := hok.h13.2
  have hb19 : nt x 19 0 < 11 := hok.h19.2
  have hb24 : nt x 24 0 < 41 := hok.h24.2
  have hb1 : nt x 1 0 < 601 := hok.h1.2
  generalize hQ : MQ below (pQi g A (nI (nt x 24 0 + 1) - 1) (mwM g ad (clmF (sI x 0 0 0) h))) args s 0 0 A = Q
  refine lv_aload_n hx hb dX4_claim_0 rfl (lv_at hl 0 rfl) ?_
  refine lv_iload_n hx hb dX4_claim_1 rfl (lv_at hl 1 rfl) ?_
  refine m_cpi (m_rV (As := [.int (nI h)]) (rest := []) hcf (k_X4_isHouse l g A ad x hok (nI h)) (cwV 1 hts (lw_V q1137 q1139 qs29 q41 q1140) rfl rfl rfl (by decide +kernel) ⟨Nat.le_of_ble_eq_true rfl, Nat.le_of_ble_eq_true rfl⟩) hE hA hM hS 30 0 (mwM_o g ad _) (ci := 1) rfl rfl hl.1 rfl (Nat.le_of_ble_eq_true rfl) dX4_claim_2 ⟨Nat.le_of_ble_eq_true rfl, Nat.le_of_ble_eq_true rfl⟩) hS (fun H locs hM hS => ?_)
  refine lv_istore_n (lv' := [(2, .int (inF (nI h) 0 (nI (nt x 13 0) - 1))), (0, .ref (ad 30 0)), (1, .int (nI h))]) hx hb dX4_claim_5 rfl hl (by decide) rfl (fun ls hl => ?_)
  refine lv_aload_n hx hb dX4_claim_6 rfl (lv_at hl 1 rfl) ?_
  refine lv_iload_n hx hb dX4_claim_7 rfl (lv_at hl 0 rfl) ?_
  have J_9 : ∀ (v_7 : Int32), ((if (inF (nI h) 0 (nI (nt x 13 0) - 1)) = 0 then 1 else (if (nI (nt x 24 0)) = 40 then 2 else 0)) = v_7) → W p l e rm_X4_claim_ok s m args below meth c H locs 0 0 Q (F0 m 29 ls [.int v_7, .ref (ad 30 0)]) := by
    intro v_7 ev_8
    refine m_topI (y := 0) ((by subst ev_8; exact hw)) ?_
    refine m_cpi (m_rV (As := [.int 0]) (rest := []) hcf (k_X4_refused l g A ad x 0) (cwV 1 hts (lw_V q1047 q1049 qs16 q41 q1050) rfl rfl rfl (by decide +kernel) ⟨Nat.le_of_ble_eq_true rfl, Nat.le_of_ble_eq_true rfl⟩) hE hA hM hS 30 0 (mwM_o g ad _) (ci := 1) rfl rfl hl.1 rfl (Nat.le_of_ble_eq_true rfl) dX4_claim_29 ⟨Nat.le_of_ble_eq_true rfl, Nat.le_of_ble_eq_true rfl⟩) hS (fun H locs hM hS => ?_)
    obtain ⟨x_12, ex_13⟩ : ∃ z : St, sI x 0 0 0 = z := ⟨_, rfl⟩
    rw [ex_13] at hM
    refine m_topI (y := 0) (by decide) ?_
    refine lv_if_eq (tgt := 37) hx hb dX4_claim_32 (by decide) (fun _ => ?_) (fun c9 => absurd (by decide) c9)
    refine lv_aload_n hx hb dX4_claim_37 rfl (lv_at hl 1 rfl) ?_
    refine mm_get hcf hE hM 25 (by decide) q961 rfl rfl dX4_claim_38 ?_
    refine lv_aload_n hx hb dX4_claim_41 rfl (lv_at hl 1 rfl) ?_
    refine mm_get hcf hE hM 24 (by decide) q960 rfl rfl dX4_claim_42 ?_
    refine m_topI (y := nI (nt x 24 0)) ((by subst ex_13 ev_8; exact hok.h24.1)) ?_
    refine lv_aload_n hx hb dX4_claim_45 rfl (lv_at hl 1 rfl) ?_
    refine lv_iload_n hx hb dX4_claim_46 rfl (lv_at hl 2 rfl) ?_
    refine m_cpi (m_rV (As := [.int (nI h)]) (rest := [.int (nI (nt x 24 0)), .ref (ad 31 25)]) hcf (k_X4_worth l g A ad x_12 (by subst ex_13 ev_8; exact ok_r0 hok 0) h (by omega) (by subst ex_13 ev_8; exact hbu)) (cwV 1 hts (lw_V q1141 q1143 qs30 q41 q1144) rfl rfl rfl (by decide +kernel) ⟨Nat.le_of_ble_eq_true rfl, Nat.le_of_ble_eq_true rfl⟩) hE hA hM hS 30 0 (mwM_o g ad _) (ci := 1) rfl rfl hl.1 rfl (Nat.le_of_ble_eq_true rfl) dX4_claim_47 ⟨Nat.le_of_ble_eq_true rfl, Nat.le_of_ble_eq_true rfl⟩) hS (fun H locs hM hS => ?_)
    refine mm_ast hcf hE hM hS 25 rfl (by decide) (nt x 24 0) (by show _ < 40; omega) rfl dX4_claim_50 (fun x_18 H locs ex_19 hM hS => ?_)
    refine lv_aload_n hx hb dX4_claim_51 rfl (lv_at hl 1 rfl) ?_
    refine lv_dup hx hb dX4_claim_52 rfl ?_
    refine mm_get hcf hE hM 24 (by decide) q960 rfl rfl dX4_claim_53 ?_
    refine m_topI (y := nI (nt x 24 0)) ((by subst ex_19 ex_13 ev_8; exact hok.h24.1)) ?_
    refine lv_iconst (v := 1) hx hb dX4_claim_56 (by decide) ?_
    refine lv_iadd hx hb dX4_claim_57 ?_
    refine m_topI (y := nI (nt x 24 0 + 1)) (nI_add (nt x 24 0) 1) ?_
    refine mm_puti hcf hE hM hS 24 (by decide) rfl q960 rfl rfl rfl (nI (nt x 24 0 + 1)) rfl dX4_claim_58 (fun x_20 H locs ex_21 hM hS => ?_)
    refine lv_aload_n hx hb dX4_claim_61 rfl (lv_at hl 1 rfl) ?_
    refine mm_get hcf hE hM 24 (by decide) q960 rfl rfl dX4_claim_62 ?_
    refine lv_iconst (v := 1) hx hb dX4_claim_65 (by decide) ?_
    refine lv_isub hx hb dX4_claim_66 ?_
    rw [← hQ]
    exact m_iret () hx hb hr rfl hlk (by have hF : x_20 = clmF (sI x 0 0 0) h := (by subst ex_21 ex_19 ex_13 ev_8; first | rfl); rw [← hF]; exact hM) hS (by subst ex_21 ex_19 ex_13 ev_8; first | rfl) (by first | decide | omega) (by first | decide | omega) dX4_claim_67
  refine lv_if_ne (tgt := 15) hx hb dX4_claim_8 (by decide) (fun c_5 => ?_) (fun c_5 => ?_)
  · refine lv_aload_n hx hb dX4_claim_15 rfl (lv_at hl 1 rfl) ?_
    refine mm_get hcf hE hM 24 (by decide) q960 rfl rfl dX4_claim_16 ?_
    refine m_topI (y := nI (nt x 24 0)) ((by exact hok.h24.1)) ?_
    refine lv_bipush (v := 40) hx hb dX4_claim_19 (by decide) ?_
    refine lv_icmp_ne (tgt := 28) hx hb dX4_claim_21 (by decide) (fun c_6 => ?_) (fun c_6 => ?_)
    · refine lv_iconst (v := 0) hx hb dX4_claim_28 (by decide) ?_
      exact J_9 _ (by first | rfl | (rw [if_neg c_5, if_neg c_6]) | (simp only [c_5, c_6, if_true, if_false, ite_true, ite_false, not_false_eq_true, reduceIte]))
    · refine lv_iconst (v := 2) hx hb dX4_claim_24 (by decide) ?_
      refine lv_goto (tgt := 29) hx hb dX4_claim_25 (by decide) ?_
      exact J_9 _ (by first | rfl | (rw [if_neg c_5, if_pos c_6]) | (simp only [c_5, c_6, if_true, if_false, ite_true, ite_false, not_false_eq_true, reduceIte]))
  · refine lv_iconst (v := 1) hx hb dX4_claim_11 (by decide) ?_
    refine lv_goto (tgt := 29) hx hb dX4_claim_12 (by decide) ?_
    exact J_9 _ (by first | rfl | (rw [if_pos c_5]) | (simp only [c_5, if_true, if_false, ite_true, ite_false, not_false_eq_true, reduceIte]))

