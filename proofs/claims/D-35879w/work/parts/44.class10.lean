/-! lists: indexOf of a house -/
set_option maxRecDepth 100000
def eqR (p q : Nat) : Int32 := if some p = some q then 1 else 0
theorem lw_U {own : String} {idx : Nat} {C owner : String} {x y : MethodName} {b : ByteArray} {L : Nat} {r : Option FieldType} (h1 : Cond.methodLink own idx x ∈ lw_all) (h2 : Cond.sameMethod x.cls owner x.name x.desc ∈ lw_all) (h3 : Cond.selects C x y ∈ lw_all) (h4 : Cond.instanceMethod y ∈ lw_all) (h5 : Cond.initialized y.cls ∈ lw_all) (h6 : Cond.code y b L r ∈ lw_all) : GoodIn lw_all (va_wsU own idx C owner x y (ws_ y b L r)) := by
  refine lw_app ?_ (lw_meth h6)
  intro w hw
  simp only [List.mem_cons, List.not_mem_nil, or_false] at hw
  rcases hw with e | e | e | e | e
  · rw [e]; exact h1
  · rw [e]; exact h2
  · rw [e]; exact h3
  · rw [e]; exact h4
  · rw [e]; exact h5
theorem eqR_nar (p q : Nat) : narrow .boolean (.int (eqR p q)) = .int (eqR p q) := by
  unfold eqR
  split <;> rfl
theorem eqR_7 {g : GG} {A : Nat → Prop} {ad : Nat → Nat → Nat} {Mx : MM} {x : St} {H : Heap} {i j : Nat} (hM : mW g.1 A (cwM g ad Mx x) H) (hi : i < nt x 13 0) (hj : j < nt x 13 0) : eqR (ad 7 i) (ad 7 j) = if i = j then 1 else 0 := by
  unfold eqR
  by_cases h : i = j
  · rw [if_pos h, h, if_pos rfl]
  · rw [if_neg h, if_neg]
    intro z
    exact h (hM.2 7 i 7 j _ _ (cw_7 hi) (cw_7 hj) (Option.some.inj z)).2
abbrev rm_J20_equals : Room := { frames := 0, cells := 0, slots := 0, locals := 0 }
set_option maxHeartbeats 400000 in
theorem k_J20_equals (l : Launch) (g : GG) (A : Nat → Prop) (M : MM) (p9 q9 : Nat) : Met l yJ20_equals (ws_ yJ20_equals cJ20_equals 2 (some .boolean)) rm_J20_equals (va_Pc [.ref p9, .ref q9] (mPre g A (M))) (pQi g A (eqR p9 q9) M) 0 0 A := by
  refine m_startF RJ20 rfl (by decide +kernel) (Nat.le_of_ble_eq_true rfl) ?_
  intro p e s m args below meth c hcf hr hlk hnm hE hA H locs hM hS ls hl
  have hx := hcf.1
  have hb := hcf.2.1
  have hml := hcf.2.2.1
  have hown := hcf.2.2.2.1
  have hts := hcf.2.2.2.2
  have hl : lv_has ls 2 [(0, .ref p9), (1, .ref q9)] := hl
  generalize hQ : MQ below (pQi g A (eqR p9 q9) M) args s 0 0 A = Q
  refine lv_aload_n hx hb dJ20_equals_0 rfl (lv_at hl 0 rfl) ?_
  refine lv_aload_n hx hb dJ20_equals_1 rfl (lv_at hl 1 rfl) ?_
  have J_4 : ∀ (v_2 : Int32), ((if (some p9) = (some q9) then 1 else 0) = v_2) → W p l e rm_J20_equals s m args below meth c H locs 0 0 Q (F0 m 10 ls [.int v_2]) := by
    intro v_2 ev_3
    rw [← hQ]
    exact m_iret () hx hb hr (by subst ev_3; first | rfl | exact eqR_nar _ _) hlk hM hS (by subst ev_3; first | rfl | (unfold eqR; rfl)) (by first | decide | omega) (by first | decide | omega) dJ20_equals_10
  refine lv_acmp_ne (tgt := 9) (rx := some p9) (ry := some q9) hx hb dJ20_equals_2 (by decide) (fun c_1 => ?_) (fun c_1 => ?_)
  · refine lv_iconst (v := 0) hx hb dJ20_equals_9 (by decide) ?_
    exact J_4 _ (by first | (rw [if_neg c_1]) | rfl | (simp only [c_1, if_true, if_false, ite_true, ite_false, not_false_eq_true, reduceIte]))
  · refine lv_iconst (v := 1) hx hb dJ20_equals_5 (by decide) ?_
    refine lv_goto (tgt := 10) hx hb dJ20_equals_6 (by decide) ?_
    exact J_4 _ (by first | (rw [if_pos c_1]) | rfl | (simp only [c_1, if_true, if_false, ite_true, ite_false, not_false_eq_true, reduceIte]))

abbrev rm_J2_indexOfRange : Room := { frames := 1, cells := 0, slots := 0, locals := 21 }
set_option maxHeartbeats 400000 in
theorem k_J2_indexOfRange (l : Launch) (g : GG) (A : Nat → Prop) (ad : Nat → Nat → Nat) (Mx : MM) (x : St) (hls : lsOK x) (h : Nat) (hh : h < nt x 13 0) (hc0 : nt x 13 0 = cN x 0) : Met l yJ2_indexOfRange (ws_ yJ2_indexOfRange cJ2_indexOfRange 6 (some .int)) rm_J2_indexOfRange (va_Pc [.ref (ad 5 0), .ref (ad 7 h), .int (nI 0), .int (nI (nt x 13 0))] (mPre g A (cwM g ad Mx x))) (pQi g A (nI h) (cwM g ad Mx x)) 0 0 A := by
  refine m_start RJ2 rfl (by decide) (Nat.le_of_ble_eq_true rfl) ?_
  intro p e s m args below meth c hcf hr hlk hnm hE hA H locs hM hS ls hl
  have hx := hcf.1
  have hb := hcf.2.1
  have hml := hcf.2.2.1
  have hown := hcf.2.2.2.1
  have hts := hcf.2.2.2.2
  have hl : lv_has ls 6 [(0, .ref (ad 5 0)), (1, .ref (ad 7 h)), (2, .int (nI 0)), (3, .int (nI (nt x 13 0)))] := hl
  have hn31 := (hls 0 (by decide)).2
  generalize hQ : MQ below (pQi g A (nI h) (cwM g ad Mx x)) args s 0 0 A = Q
  refine lv_aload_n hx hb dJ2_indexOfRange_0 rfl (lv_at hl 0 rfl) ?_
  refine m_get hx hb hts in_J2 hown hE hM 5 0 (cw_5 (by omega)) (ci := 8) rfl 1 (by decide) (hts _ q89) (fun _ h9 => h9) rfl dJ2_indexOfRange_1 ?_
  refine lv_astore (lv' := [(4, .ref (cEl g ad x 0)), (0, .ref (ad 5 0)), (1, .ref (ad 7 h)), (2, .int (nI 0)), (3, .int (nI (nt x 13 0)))]) hx hb dJ2_indexOfRange_4 hl (by decide) rfl (fun ls hl => ?_)
  refine lv_aload_n hx hb dJ2_indexOfRange_6 rfl (lv_at hl 2 rfl) ?_
  refine lv_ifnonnull (tgt := 39) hx hb dJ2_indexOfRange_7 (by decide) ?_
  refine lv_iload_n hx hb dJ2_indexOfRange_39 rfl (lv_at hl 3 rfl) ?_
  refine lv_istore (lv' := [(5, .int (nI 0)), (4, .ref (cEl g ad x 0)), (0, .ref (ad 5 0)), (1, .ref (ad 7 h)), (2, .int (nI 0)), (3, .int (nI (nt x 13 0)))]) hx hb dJ2_indexOfRange_40 hl (by decide) rfl (fun ls hl => ?_)
  have L_3 : ∀ (n9 i9 : Nat), i9 + n9 = h → ∀ (H : Heap) (locs : List Loc) (ls : Array Slot), mW g.1 A (cwM g ad Mx x) H → va_S A s.heap H locs → lv_has ls 6 [(0, .ref (ad 5 0)), (1, .ref (ad 7 h)), (2, .int (nI 0)), (3, .int (nI (nt x 13 0))), (4, .ref (cEl g ad x 0)), (5, .int (nI i9))] → W p l e rm_J2_indexOfRange s m args below meth c H locs 0 0 Q (F0 m 42 ls []) := by
    intro n9
    induction n9 with
    | zero =>
      intro i9 hi H locs ls hM hS hl 
      have hi : h = i9 := by omega
      subst hi
      refine lv_iload hx hb dJ2_indexOfRange_42 (lv_at hl 5 rfl) ?_
      refine lv_iload_n hx hb dJ2_indexOfRange_44 rfl (lv_at hl 3 rfl) ?_
      refine lv_icmp_ge (tgt := 69) hx hb dJ2_indexOfRange_45 (by decide) (fun c9 => absurd c9 (nI_ge (a := h) (b := nt x 13 0) (by omega) (by omega))) (fun _ => ?_)
      refine lv_aload_n hx hb dJ2_indexOfRange_48 rfl (lv_at hl 1 rfl) ?_
      refine lv_aload hx hb dJ2_indexOfRange_49 (lv_at hl 4 rfl) ?_
      refine lv_iload hx hb dJ2_indexOfRange_51 (lv_at hl 5 rfl) ?_
      refine ce_ld hcf hE hM hls 0 (by omega) h (by omega) rfl dJ2_indexOfRange_53 ?_
      refine m_topV (w := .ref (ad 7 h)) rfl ?_
      refine m_cpi (m_rU (As := [.ref (ad 7 h)]) (rest := []) hcf (k_J20_equals l g A (cwM g ad Mx x) (ad 7 h) (ad 7 h)) (va_cwU (C := "Wakeground$House") (owner := "java/lang/Object") 1 hts (lw_U q830 q832 q838 q831 q1205 q858) rfl rfl rfl rfl (by decide +kernel) ⟨Nat.le_of_ble_eq_true rfl, Nat.le_of_ble_eq_true rfl⟩) hE hA hM hS 7 h (cw_7 (by omega)) (ci := 5) rfl rfl hl.1 rfl (Nat.le_of_ble_eq_true rfl) dJ2_indexOfRange_54 ⟨Nat.le_of_ble_eq_true rfl, Nat.le_of_ble_eq_true rfl⟩) hS (fun H locs hM hS => ?_)
      refine m_topI (y := 1) ((eqR_7 hM (by omega) (by omega)).trans (if_pos rfl)) ?_
      refine lv_if_eq (tgt := 63) hx hb dJ2_indexOfRange_57 (by decide) (fun c9 => absurd c9 (by decide)) (fun _ => ?_)
      refine lv_iload hx hb dJ2_indexOfRange_60 (lv_at hl 5 rfl) ?_
      rw [← hQ]
      exact m_iret () hx hb hr rfl hlk hM hS (by first | rfl) (by first | decide | omega) (by first | decide | omega) dJ2_indexOfRange_62
    | succ n9 ih =>
      intro i9 hi H locs ls hM hS hl 
      have hlt_i9 : i9 < h := by omega
      refine lv_iload hx hb dJ2_indexOfRange_42 (lv_at hl 5 rfl) ?_
      refine lv_iload_n hx hb dJ2_indexOfRange_44 rfl (lv_at hl 3 rfl) ?_
      refine lv_icmp_ge (tgt := 69) hx hb dJ2_indexOfRange_45 (by decide) (fun c9 => absurd c9 (nI_ge (by omega) (by omega))) (fun _ => ?_)
      refine lv_aload_n hx hb dJ2_indexOfRange_48 rfl (lv_at hl 1 rfl) ?_
      refine lv_aload hx hb dJ2_indexOfRange_49 (lv_at hl 4 rfl) ?_
      refine lv_iload hx hb dJ2_indexOfRange_51 (lv_at hl 5 rfl) ?_
      refine ce_ld hcf hE hM hls 0 (by omega) i9 (by omega) rfl dJ2_indexOfRange_53 ?_
      refine m_topV (w := .ref (ad 7 i9)) rfl ?_
      refine m_cpi (m_rU (As := [.ref (ad 7 i9)]) (rest := []) hcf (k_J20_equals l g A (cwM g ad Mx x) (ad 7 h) (ad 7 i9)) (va_cwU (C := "Wakeground$House") (owner := "java/lang/Object") 1 hts (lw_U q830 q832 q838 q831 q1205 q858) rfl rfl rfl rfl (by decide +kernel) ⟨Nat.le_of_ble_eq_true rfl, Nat.le_of_ble_eq_true rfl⟩) hE hA hM hS 7 h (cw_7 (by omega)) (ci := 5) rfl rfl hl.1 rfl (Nat.le_of_ble_eq_true rfl) dJ2_indexOfRange_54 ⟨Nat.le_of_ble_eq_true rfl, Nat.le_of_ble_eq_true rfl⟩) hS (fun H locs hM hS => ?_)
      refine m_topI (y := 0) ((eqR_7 hM (by omega) (by omega)).trans (if_neg (by omega))) ?_
      refine lv_if_eq (tgt := 63) hx hb dJ2_indexOfRange_57 (by decide) (fun _ => ?_) (fun c9 => absurd (by decide) c9)
      refine lv_iinc (v := nI (i9 + 1)) (lv' := [(5, .int (nI (i9 + 1))), (0, .ref (ad 5 0)), (1, .ref (ad 7 h)), (2, .int (nI 0)), (3, .int (nI (nt x 13 0))), (4, .ref (cEl g ad x 0))]) hx hb dJ2_indexOfRange_63 hl (k := 5) rfl (nI_add i9 1) (by decide) rfl (fun ls hl => ?_)
      refine lv_goto (tgt := 42) hx hb dJ2_indexOfRange_66 (by decide) ?_
      exact ih (i9 + 1) (by omega) H locs ls hM hS (lv_sub hl [1, 2, 3, 4, 5, 0] (by rfl))
  exact L_3 (h) 0 (by omega) H locs ls hM hS (lv_sub hl [2, 3, 4, 5, 1, 0] rfl)

abbrev rm_J2_indexOf : Room := { frames := 2, cells := 0, slots := 0, locals := 46 }
set_option maxHeartbeats 400000 in
theorem k_J2_indexOf (l : Launch) (g : GG) (A : Nat → Prop) (ad : Nat → Nat → Nat) (Mx : MM) (x : St) (hls : lsOK x) (h : Nat) (hh : h < nt x 13 0) (hc0 : nt x 13 0 = cN x 0) : Met l yJ2_indexOf (ws_ yJ2_indexOf cJ2_indexOf 2 (some .int)) rm_J2_indexOf (va_Pc [.ref (ad 5 0), .ref (ad 7 h)] (mPre g A (cwM g ad Mx x))) (pQi g A (nI h) (cwM g ad Mx x)) 0 0 A := by
  refine m_start RJ2 rfl (by decide) (Nat.le_of_ble_eq_true rfl) ?_
  intro p e s m args below meth c hcf hr hlk hnm hE hA H locs hM hS ls hl
  have hx := hcf.1
  have hb := hcf.2.1
  have hml := hcf.2.2.1
  have hown := hcf.2.2.2.1
  have hts := hcf.2.2.2.2
  have hl : lv_has ls 2 [(0, .ref (ad 5 0)), (1, .ref (ad 7 h))] := hl
  generalize hQ : MQ below (pQi g A (nI h) (cwM g ad Mx x)) args s 0 0 A = Q
  refine lv_aload_n hx hb dJ2_indexOf_0 rfl (lv_at hl 0 rfl) ?_
  refine lv_aload_n hx hb dJ2_indexOf_1 rfl (lv_at hl 1 rfl) ?_
  refine lv_iconst (v := 0) hx hb dJ2_indexOf_2 (by decide) ?_
  refine lv_aload_n hx hb dJ2_indexOf_3 rfl (lv_at hl 0 rfl) ?_
  refine m_get hx hb hts in_J2 hown hE hM 5 0 (cw_5 (by omega)) (ci := 8) rfl 2 (by decide) (hts _ q90) (fun _ h9 => h9) rfl dJ2_indexOf_4 ?_
  refine m_topI (y := nI (nt x 13 0)) ((by rw [hc0]; exact (hls 0 (by decide)).1)) ?_
  refine m_cpi (m_rV (As := [.ref (ad 7 h), .int 0, .int (nI (nt x 13 0))]) (rest := []) hcf (k_J2_indexOfRange l g A ad Mx x hls h hh hc0) (cwV 3 hts (lw_V q825 q826 q827 q38 q828) rfl rfl rfl (by decide +kernel) ⟨Nat.le_of_ble_eq_true rfl, Nat.le_of_ble_eq_true rfl⟩) hE hA hM hS 5 0 (cw_5 (by omega)) (ci := 8) rfl rfl hl.1 rfl (Nat.le_of_ble_eq_true rfl) dJ2_indexOf_7 ⟨Nat.le_of_ble_eq_true rfl, Nat.le_of_ble_eq_true rfl⟩) hS (fun H locs hM hS => ?_)
  rw [← hQ]
  exact m_iret () hx hb hr rfl hlk hM hS (by first | rfl) (by first | decide | omega) (by first | decide | omega) dJ2_indexOf_10
