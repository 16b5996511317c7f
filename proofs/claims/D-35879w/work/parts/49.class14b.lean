/-! breach, lakes -/
set_option maxRecDepth 100000
theorem cbrF_eq {x y z w : St} {q : St × Nat} {k : Nat} (h1 : fgtF x 25 = y) (h2 : spF y k = q) (h3 : (cbrL q.1 q.2).1 = z) (h4 : sL z 29 (z.2 29 + (cbrL q.1 q.2).2.toInt64) = w) : w = cbrF x k := by
  have e : cbrL q.1 q.2 = cbrQ x k := by
    unfold cbrQ
    rw [h1, h2]
  have h5 : ∀ u : St × Int32, u.1 = z → sL z 29 (z.2 29 + u.2.toInt64) = w → w = brG u := by
    intro u h6 h7
    rw [← h7, ← h6]
    rfl
  have h8 := h5 _ h3 h4
  rw [e] at h8
  exact h8
theorem cbrF_mW {D : va_G} {A : Nat → Prop} {g : GG} {ad : Nat → Nat → Nat} {Mx : MM} {H : Heap} {x w : St} {k : Nat} (h : w = cbrF x k) (hM : mW D A (cwM g ad Mx w) H) : mW D A (cwM g ad Mx (cbrF x k)) H := Eq.subst (motive := fun z => mW D A (cwM g ad Mx z) H) h hM
theorem cbrQ_eq {x y : St} {q : St × Nat} {k : Nat} (h1 : fgtF x 25 = y) (h2 : spF y k = q) : (cbrL q.1 q.2).2 = (cbrQ x k).2 := by
  unfold cbrQ
  rw [h1, h2]
def cbrW (x : St) (k : Nat) : Int32 := (if (x.1 3 k) ≤ 0 then 0 else 1 : Int32)
abbrev rm_X1_breach_ok : Room := { frames := 5, cells := 25, slots := 50, locals := 108 }
set_option maxHeartbeats 400000 in
theorem k_X1_breach_ok (l : Launch) (g : GG) (A : Nat → Prop) (ad : Nat → Nat → Nat) (Mx : MM) (x : St) (k : Nat) (hk : k < 25) (hw : cbrW x k = 1) (hMx : Mx 20 0 = none) : Met l yX1_breach (ws_ yX1_breach cX1_breach 5 (some .int)) rm_X1_breach_ok (va_Pc [.ref (ad 0 0), .int (nI k)] (mPre g A (cwM g ad Mx x))) (pQi g A (cbrQ x k).2 (cwM g ad Mx (cbrF x k))) 25 50 A := by
  refine m_start RX1 rfl (by decide) (Nat.le_of_ble_eq_true rfl) ?_
  intro p e s m args below meth c hcf hr hlk hnm hE hA H locs hM hS ls hl
  have hx := hcf.1
  have hb := hcf.2.1
  have hml := hcf.2.2.1
  have hown := hcf.2.2.2.1
  have hts := hcf.2.2.2.2
  have hl : lv_has ls 5 [(0, .ref (ad 0 0)), (1, .int (nI k))] := hl
  generalize hQ : MQ below (pQi g A (cbrQ x k).2 (cwM g ad Mx (cbrF x k))) args s 25 50 A = Q
  refine lv_aload_n hx hb dX1_breach_0 rfl (lv_at hl 0 rfl) ?_
  refine lv_iload_n hx hb dX1_breach_1 rfl (lv_at hl 1 rfl) ?_
  refine m_cpr (m_rV (As := [.int (nI k)]) (rest := []) hcf (k_X1_cellAt_ok l g A ad Mx x k (by omega)) (cwV 1 hts (lw_V q416 q418 qs7 q35 q419) rfl rfl rfl (by decide +kernel) ⟨Nat.le_of_ble_eq_true rfl, Nat.le_of_ble_eq_true rfl⟩) hE hA hM hS 0 0 cw_0 (ci := 0) rfl rfl hl.1 rfl (Nat.le_of_ble_eq_true rfl) dX1_breach_2 ⟨Nat.le_of_ble_eq_true rfl, Nat.le_of_ble_eq_true rfl⟩) hS (fun H locs hM hS => ?_)
  refine m_get hx hb hts in_X2 hown hE hM 2 k (cw_2 (by omega)) (ci := 2) rfl 3 (by decide) (hts _ q144) (fun _ h9 => h9) rfl dX1_breach_5 ?_
  have J_5 : ∀ (v_3 : Int32), ((if (x.1 3 k) ≤ 0 then 0 else 1) = v_3) → W p l e rm_X1_breach_ok s m args below meth c H locs 0 0 Q (F0 m 16 ls [.int v_3]) := by
    intro v_3 ev_4
    refine m_topI (y := 1) ((by subst ev_4; exact hw)) ?_
    refine m_cpv (m_rS (As := [.int 1]) (rest := []) hcf (k_X1_allowed_ok l g A (cwM g ad Mx x)) (va_cwS 1 hts (lw_S q473 q474 q35 q475) rfl rfl rfl (by decide +kernel) ⟨Nat.le_of_ble_eq_true rfl, Nat.le_of_ble_eq_true rfl⟩) hE hA hM hS rfl hl.1 rfl (Nat.le_of_ble_eq_true rfl) dX1_breach_16 ⟨Nat.le_of_ble_eq_true rfl, Nat.le_of_ble_eq_true rfl⟩) hS (fun H locs hM hS => ?_)
    refine lv_aload_n hx hb dX1_breach_19 rfl (lv_at hl 0 rfl) ?_
    refine m_cpv (m_rV (As := []) (rest := []) hcf (k_X1_forget l g A ad Mx x ) (cwV 0 hts (lw_V q219 q221 qs1 q35 q222) rfl rfl rfl (by decide +kernel) ⟨Nat.le_of_ble_eq_true rfl, Nat.le_of_ble_eq_true rfl⟩) hE hA hM hS 0 0 cw_0 (ci := 0) rfl rfl hl.1 rfl (Nat.le_of_ble_eq_true rfl) dX1_breach_20 ⟨Nat.le_of_ble_eq_true rfl, Nat.le_of_ble_eq_true rfl⟩) hS (fun H locs hM hS => ?_)
    obtain ⟨x_7, ex_8⟩ : ∃ z : St, fgtF x 25 = z := ⟨_, rfl⟩
    rw [ex_8] at hM
    have h051 : x_7.1 51 k = 0 := by rw [← ex_8]; exact fgtF_51 x 25 k (by omega)
    refine lv_aload_n hx hb dX1_breach_23 rfl (lv_at hl 0 rfl) ?_
    refine lv_iload_n hx hb dX1_breach_24 rfl (lv_at hl 1 rfl) ?_
    refine m_cpi (m_rV (As := [.int (nI k)]) (rest := []) hcf (k_X1_spread l g A ad Mx x_7 k (by omega) h051 hMx) (cwV 1 hts (lw_V q223 q225 qs2 q35 q226) rfl rfl rfl (by decide +kernel) ⟨Nat.le_of_ble_eq_true rfl, Nat.le_of_ble_eq_true rfl⟩) hE hA hM hS 0 0 cw_0 (ci := 0) rfl rfl hl.1 rfl (Nat.le_of_ble_eq_true rfl) dX1_breach_25 ⟨Nat.le_of_ble_eq_true rfl, Nat.le_of_ble_eq_true rfl⟩) hS (fun H locs hM hS => ?_)
    obtain ⟨q_11, eq_12⟩ : ∃ z : St × Nat, spF x_7 k = z := ⟨_, rfl⟩
    rw [eq_12] at hM
    refine m_topI (y := nI q_11.2) (by rw [eq_12]) ?_
    have hI := spF_I (x := x_7) (k := k) (by omega) h051
    rw [eq_12] at hI
    have h25 := hI.le
    have hpi := hI.2
    refine lv_istore_n (lv' := [(2, .int (nI q_11.2)), (0, .ref (ad 0 0)), (1, .int (nI k))]) hx hb dX1_breach_28 rfl hl (by decide) rfl (fun ls hl => ?_)
    refine lv_iconst (v := 0) hx hb dX1_breach_29 (by decide) ?_
    refine lv_istore_n (lv' := [(3, .int 0), (2, .int (nI q_11.2)), (0, .ref (ad 0 0)), (1, .int (nI k))]) hx hb dX1_breach_30 rfl hl (by decide) rfl (fun ls hl => ?_)
    refine lv_iconst (v := 0) hx hb dX1_breach_31 (by decide) ?_
    refine lv_istore (lv' := [(4, .int 0), (3, .int 0), (2, .int (nI q_11.2)), (0, .ref (ad 0 0)), (1, .int (nI k))]) hx hb dX1_breach_32 hl (by decide) rfl (fun ls hl => ?_)
    have L_17 : ∀ (n9 i_17 : Nat), i_17 + n9 = q_11.2 → ∀ (H : Heap) (locs : List Loc) (ls : Array Slot), mW g.1 A (cwM g ad Mx ((cbrL q_11.1 i_17).1)) H → va_S A s.heap H locs → lv_has ls 5 [(0, .ref (ad 0 0)), (2, .int (nI q_11.2)), (3, .int ((cbrL q_11.1 i_17).2)), (4, .int (nI i_17))] → W p l e rm_X1_breach_ok s m args below meth c H locs 25 50 Q (F0 m 34 ls []) := by
      intro n9
      induction n9 with
      | zero =>
        intro i_17 hi H locs ls hM hS hl 
        have hi : q_11.2 = i_17 := by omega
        subst hi
        obtain ⟨x_19, ex_20⟩ : ∃ z : St, (cbrL q_11.1 q_11.2).1 = z := ⟨_, rfl⟩
        rw [ex_20] at hM
        refine lv_iload hx hb dX1_breach_34 (lv_at hl 3 rfl) ?_
        refine lv_iload_n hx hb dX1_breach_36 rfl (lv_at hl 1 rfl) ?_
        refine lv_icmp_ge (tgt := 80) hx hb dX1_breach_37 (by decide) (fun _ => ?_) (fun c9 => absurd (nI_le (Nat.le_refl _) (by omega)) c9)
        refine lv_aload_n hx hb dX1_breach_80 rfl (lv_at hl 0 rfl) ?_
        refine lv_dup hx hb dX1_breach_81 rfl ?_
        refine m_get hx hb hts in_X1 hown hE hM 0 0 cw_0 (ci := 0) rfl 6 (by decide) (hts _ q186) (fun _ h9 => h9) rfl dX1_breach_82 ?_
        refine lv_iload_n hx hb dX1_breach_85 rfl (lv_at hl 2 rfl) ?_
        refine lv_i2l hx hb dX1_breach_86 rfl ?_
        refine lv_ladd hx hb dX1_breach_87 ?_
        refine cm_putl hcf hE hM hS q186 ((x_19.2 29) + (((cbrL q_11.1 q_11.2).2).toInt64)) dX1_breach_88 (fun x_21 H locs ex_22 hM hS => ?_)
        refine lv_iload_n hx hb dX1_breach_91 rfl (lv_at hl 2 rfl) ?_
        rw [← hQ]
        exact m_iret () hx hb hr rfl hlk (cbrF_mW (cbrF_eq ex_8 eq_12 ex_20 ex_22) hM) hS (cbrQ_eq ex_8 eq_12) (by first | decide | omega) (by first | decide | omega) dX1_breach_92
      | succ n9 ih =>
        intro i_17 hi H locs ls hM hS hl 
        have hlt_i_17 : i_17 < q_11.2 := by omega
        obtain ⟨x_24, ex_25⟩ : ∃ z : St, (cbrL q_11.1 i_17).1 = z := ⟨_, rfl⟩
        rw [ex_25] at hM
        have hpj := (hpi i_17 (by omega)).2
        refine lv_iload hx hb dX1_breach_34 (lv_at hl 3 rfl) ?_
        refine lv_iload_n hx hb dX1_breach_36 rfl (lv_at hl 1 rfl) ?_
        refine lv_icmp_ge (tgt := 80) hx hb dX1_breach_37 (by decide) (fun c9 => absurd c9 (nI_ge (by omega) (by omega))) (fun _ => ?_)
        refine lv_iload_n hx hb dX1_breach_40 rfl (lv_at hl 2 rfl) ?_
        refine lv_aload_n hx hb dX1_breach_41 rfl (lv_at hl 0 rfl) ?_
        refine m_get hx hb hts in_X1 hown hE hM 0 0 cw_0 (ci := 0) rfl 0 (by decide) (hts _ q178) (fun _ h9 => h9) rfl dX1_breach_42 ?_
        refine lv_aload_n hx hb dX1_breach_45 rfl (lv_at hl 0 rfl) ?_
        refine m_get hx hb hts in_X1 hown hE hM 0 0 cw_0 (ci := 0) rfl 9 (by decide) (hts _ q189) (fun _ h9 => h9) rfl dX1_breach_46 ?_
        refine lv_iload hx hb dX1_breach_49 (lv_at hl 3 rfl) ?_
        refine m_iald hx hb hE hM 11 3 cw_11d i_17 (by omega) (by decide) rfl dX1_breach_51 ?_
        refine m_topI (y := nI (nt q_11.1 50 i_17)) (by rw [show x_24.1 50 = q_11.1.1 50 from (by rw [← ex_25]; exact cbrL_o _ _ (by decide) _)]; exact (hpi _ (by omega)).1) ?_
        refine m_aald hx hb hE hM 1 0 3 cw_1 rfl (nt q_11.1 50 i_17) (by omega) (by decide) rfl rfl dX1_breach_52 ?_
        refine m_get hx hb hts in_X2 hown hE hM 2 (nt q_11.1 50 i_17) (cw_2 (by omega)) (ci := 2) rfl 3 (by decide) (hts _ q144) (fun _ h9 => h9) rfl dX1_breach_53 ?_
        refine lv_iadd hx hb dX1_breach_56 ?_
        refine lv_istore_n (lv' := [(3, .int (((cbrL q_11.1 i_17).2) + (x_24.1 3 (nt q_11.1 50 i_17)))), (0, .ref (ad 0 0)), (2, .int (nI q_11.2)), (4, .int (nI i_17))]) hx hb dX1_breach_57 rfl hl (by decide) rfl (fun ls hl => ?_)
        refine lv_aload_n hx hb dX1_breach_58 rfl (lv_at hl 1 rfl) ?_
        refine m_get hx hb hts in_X1 hown hE hM 0 0 cw_0 (ci := 0) rfl 0 (by decide) (hts _ q178) (fun _ h9 => h9) rfl dX1_breach_59 ?_
        refine lv_aload_n hx hb dX1_breach_62 rfl (lv_at hl 1 rfl) ?_
        refine m_get hx hb hts in_X1 hown hE hM 0 0 cw_0 (ci := 0) rfl 9 (by decide) (hts _ q189) (fun _ h9 => h9) rfl dX1_breach_63 ?_
        refine lv_iload hx hb dX1_breach_66 (lv_at hl 3 rfl) ?_
        refine m_iald hx hb hE hM 11 3 cw_11d i_17 (by omega) (by decide) rfl dX1_breach_68 ?_
        refine m_topI (y := nI (nt q_11.1 50 i_17)) (by rw [show x_24.1 50 = q_11.1.1 50 from (by rw [← ex_25]; exact cbrL_o _ _ (by decide) _)]; exact (hpi _ (by omega)).1) ?_
        refine m_aald hx hb hE hM 1 0 3 cw_1 rfl (nt q_11.1 50 i_17) (by omega) (by decide) rfl rfl dX1_breach_69 ?_
        refine lv_iconst (v := 0) hx hb dX1_breach_70 (by decide) ?_
        refine cc_put hcf hE hM hS (nt q_11.1 50 i_17) (by omega) 3 (by decide) (by decide) q144 rfl rfl rfl 0 rfl dX1_breach_71 (fun x_27 H locs ex_28 hM hS => ?_)
        refine lv_iinc (v := nI (i_17 + 1)) (lv' := [(4, .int (nI (i_17 + 1))), (3, .int (((cbrL q_11.1 i_17).2) + (x_24.1 3 (nt q_11.1 50 i_17)))), (0, .ref (ad 0 0)), (2, .int (nI q_11.2))]) hx hb dX1_breach_74 hl (k := 3) rfl (nI_add i_17 1) (by decide) rfl (fun ls hl => ?_)
        refine lv_goto (tgt := 34) hx hb dX1_breach_77 (by decide) ?_
        exact ih (i_17 + 1) (by omega) H locs ls (by have hF : x_27 = (cbrL q_11.1 (i_17 + 1)).1 := (by subst ex_28 ex_25; rfl); rw [← hF]; exact hM) hS (lv_sub hl [2, 3, 1, 0] (by subst ex_28 ex_25; rfl))
    exact L_17 (q_11.2) 0 (by omega) H locs ls hM hS (lv_sub hl [3, 2, 1, 0] rfl)
  refine lv_if_le (tgt := 15) hx hb dX1_breach_8 (by decide) (fun c_2 => ?_) (fun c_2 => ?_)
  · refine lv_iconst (v := 0) hx hb dX1_breach_15 (by decide) ?_
    exact J_5 _ (by first | (rw [if_pos c_2]) | rfl | (simp only [c_2, if_true, if_false, ite_true, ite_false, not_false_eq_true, reduceIte]))
  · refine lv_iconst (v := 1) hx hb dX1_breach_11 (by decide) ?_
    refine lv_goto (tgt := 16) hx hb dX1_breach_12 (by decide) ?_
    exact J_5 _ (by first | (rw [if_neg c_2]) | rfl | (simp only [c_2, if_true, if_false, ite_true, ite_false, not_false_eq_true, reduceIte]))

abbrev rm_X1_breach_n1 : Room := { frames := 8, cells := 1, slots := 6, locals := 123 }
set_option maxHeartbeats 400000 in
theorem k_X1_breach_n1 (l : Launch) (g : GG) (A : Nat → Prop) (hlt : l.stackTraces = false) (ad : Nat → Nat → Nat) (Mx : MM) (x : St) (a0 : Int32) (h0 : inF a0 0 24 = 0) : vx_Met l yX1_breach (ws_ yX1_breach cX1_breach 5 (some .int)) rm_X1_breach_n1 (va_Pc [.ref (ad 0 0), .int a0] (mPre g A (cwM g ad Mx x))) pNo (mX g A "java/lang/IndexOutOfBoundsException" (cwM g ad Mx x)) 1 6 A := by
  refine m_startX RX1 rfl (by decide) (Nat.le_of_ble_eq_true rfl) ?_
  intro p e s m args below meth c hcf hr hlk hnm hE hA ht H locs hM hS ls hl
  have hx := hcf.1
  have hb := hcf.2.1
  have hml := hcf.2.2.1
  have hown := hcf.2.2.2.1
  have hts := hcf.2.2.2.2
  have hl : lv_has ls 5 [(0, .ref (ad 0 0)), (1, .int a0)] := hl
  generalize hQ : vx_MQ below pNo (mX g A "java/lang/IndexOutOfBoundsException" (cwM g ad Mx x)) args s 1 6 A = Q
  refine lv_aload_n hx hb dX1_breach_0 rfl (lv_at hl 0 rfl) ?_
  refine lv_iload_n hx hb dX1_breach_1 rfl (lv_at hl 1 rfl) ?_
  rw [← hQ]
  exact m_xend (m_xV (As := [.int a0]) (rest := []) hcf (k_X1_cellAt_no l g A hlt ad Mx x a0 h0) (cwV 1 hts (lw_V q416 q418 qs7 q35 q419) rfl rfl rfl (by decide +kernel) ⟨Nat.le_of_ble_eq_true rfl, Nat.le_of_ble_eq_true rfl⟩) hE hA hM hS 0 0 cw_0 (ci := 0) rfl rfl hl.1 rfl (Nat.le_of_ble_eq_true rfl) dX1_breach_2 ⟨Nat.le_of_ble_eq_true rfl, Nat.le_of_ble_eq_true rfl⟩) ht hlk hS (Nat.le_of_ble_eq_true rfl) (Nat.le_of_ble_eq_true rfl)

abbrev rm_X1_breach_n2 : Room := { frames := 7, cells := 1, slots := 6, locals := 102 }
set_option maxHeartbeats 400000 in
theorem k_X1_breach_n2 (l : Launch) (g : GG) (A : Nat → Prop) (hlt : l.stackTraces = false) (ad : Nat → Nat → Nat) (Mx : MM) (x : St) (k : Nat) (hk : k < 25) (hw : cbrW x k = 0) : vx_Met l yX1_breach (ws_ yX1_breach cX1_breach 5 (some .int)) rm_X1_breach_n2 (va_Pc [.ref (ad 0 0), .int (nI k)] (mPre g A (cwM g ad Mx x))) pNo (mX g A "java/lang/IllegalStateException" (cwM g ad Mx x)) 1 6 A := by
  refine m_startX RX1 rfl (by decide) (Nat.le_of_ble_eq_true rfl) ?_
  intro p e s m args below meth c hcf hr hlk hnm hE hA ht H locs hM hS ls hl
  have hx := hcf.1
  have hb := hcf.2.1
  have hml := hcf.2.2.1
  have hown := hcf.2.2.2.1
  have hts := hcf.2.2.2.2
  have hl : lv_has ls 5 [(0, .ref (ad 0 0)), (1, .int (nI k))] := hl
  generalize hQ : vx_MQ below pNo (mX g A "java/lang/IllegalStateException" (cwM g ad Mx x)) args s 1 6 A = Q
  refine lv_aload_n hx hb dX1_breach_0 rfl (lv_at hl 0 rfl) ?_
  refine lv_iload_n hx hb dX1_breach_1 rfl (lv_at hl 1 rfl) ?_
  refine m_cpr (m_rV (As := [.int (nI k)]) (rest := []) hcf (k_X1_cellAt_ok l g A ad Mx x k (by omega)) (cwV 1 hts (lw_V q416 q418 qs7 q35 q419) rfl rfl rfl (by decide +kernel) ⟨Nat.le_of_ble_eq_true rfl, Nat.le_of_ble_eq_true rfl⟩) hE hA hM hS 0 0 cw_0 (ci := 0) rfl rfl hl.1 rfl (Nat.le_of_ble_eq_true rfl) dX1_breach_2 ⟨Nat.le_of_ble_eq_true rfl, Nat.le_of_ble_eq_true rfl⟩) hS (fun H locs hM hS => ?_)
  refine m_get hx hb hts in_X2 hown hE hM 2 k (cw_2 (by omega)) (ci := 2) rfl 3 (by decide) (hts _ q144) (fun _ h9 => h9) rfl dX1_breach_5 ?_
  have J_5 : ∀ (v_3 : Int32), ((if (x.1 3 k) ≤ 0 then 0 else 1) = v_3) → W p l e rm_X1_breach_n2 s m args below meth c H locs 0 0 Q (F0 m 16 ls [.int v_3]) := by
    intro v_3 ev_4
    refine m_topI (y := 0) ((by subst ev_4; exact hw)) ?_
    rw [← hQ]
    exact m_xend (m_xS (As := [.int 0]) (rest := []) hcf (k_X1_allowed_no l g A hlt (cwM g ad Mx x)) (va_cwS 1 hts (lw_S q473 q474 q35 q475) rfl rfl rfl (by decide +kernel) ⟨Nat.le_of_ble_eq_true rfl, Nat.le_of_ble_eq_true rfl⟩) hE hA hM hS rfl hl.1 rfl (Nat.le_of_ble_eq_true rfl) dX1_breach_16 ⟨Nat.le_of_ble_eq_true rfl, Nat.le_of_ble_eq_true rfl⟩) ht hlk hS (Nat.le_of_ble_eq_true rfl) (Nat.le_of_ble_eq_true rfl)
  refine lv_if_le (tgt := 15) hx hb dX1_breach_8 (by decide) (fun c_2 => ?_) (fun c_2 => ?_)
  · refine lv_iconst (v := 0) hx hb dX1_breach_15 (by decide) ?_
    exact J_5 _ (by first | (rw [if_pos c_2]) | rfl | (simp only [c_2, if_true, if_false, ite_true, ite_false, not_false_eq_true, reduceIte]))
  · refine lv_iconst (v := 1) hx hb dX1_breach_11 (by decide) ?_
    refine lv_goto (tgt := 16) hx hb dX1_breach_12 (by decide) ?_
    exact J_5 _ (by first | (rw [if_neg c_2]) | rfl | (simp only [c_2, if_true, if_false, ite_true, ite_false, not_false_eq_true, reduceIte]))

abbrev rm_X1_lakes : Room := { frames := 5, cells := 625, slots := 1250, locals := 108 }
set_option maxHeartbeats 1000000 in
theorem k_X1_lakes (l : Launch) (g : GG) (A : Nat → Prop) (ad : Nat → Nat → Nat) (Mx : MM) (x : St) (hMx : Mx 20 0 = none) : Met l yX1_lakes (ws_ yX1_lakes cX1_lakes 6 (some .int)) rm_X1_lakes (va_Pc [.ref (ad 0 0)] (mPre g A (cwM g ad Mx x))) (pQi g A (ckL x 25).2 (cwM g ad Mx (ckL x 25).1)) 625 1250 A := by
  refine m_start RX1 rfl (by decide) (Nat.le_of_ble_eq_true rfl) ?_
  intro p e s m args below meth c hcf hr hlk hnm hE hA H locs hM hS ls hl
  have hx := hcf.1
  have hb := hcf.2.1
  have hml := hcf.2.2.1
  have hown := hcf.2.2.2.1
  have hts := hcf.2.2.2.2
  have hl : lv_has ls 6 [(0, .ref (ad 0 0))] := hl
  generalize hQ : MQ below (pQi g A (ckL x 25).2 (cwM g ad Mx (ckL x 25).1)) args s 625 1250 A = Q
  refine lv_aload_n hx hb dX1_lakes_0 rfl (lv_at hl 0 rfl) ?_
  refine m_cpv (m_rV (As := []) (rest := []) hcf (k_X1_forget l g A ad Mx x ) (cwV 0 hts (lw_V q219 q221 qs1 q35 q222) rfl rfl rfl (by decide +kernel) ⟨Nat.le_of_ble_eq_true rfl, Nat.le_of_ble_eq_true rfl⟩) hE hA hM hS 0 0 cw_0 (ci := 0) rfl rfl hl.1 rfl (Nat.le_of_ble_eq_true rfl) dX1_lakes_1 ⟨Nat.le_of_ble_eq_true rfl, Nat.le_of_ble_eq_true rfl⟩) hS (fun H locs hM hS => ?_)
  obtain ⟨x_1, ex_2⟩ : ∃ z : St, fgtF x 25 = z := ⟨_, rfl⟩
  rw [ex_2] at hM
  refine lv_iconst (v := 0) hx hb dX1_lakes_4 (by decide) ?_
  refine lv_istore_n (lv' := [(1, .int 0), (0, .ref (ad 0 0))]) hx hb dX1_lakes_5 rfl hl (by decide) rfl (fun ls hl => ?_)
  refine lv_iconst (v := 0) hx hb dX1_lakes_6 (by decide) ?_
  refine lv_istore_n (lv' := [(2, .int 0), (1, .int 0), (0, .ref (ad 0 0))]) hx hb dX1_lakes_7 rfl hl (by decide) rfl (fun ls hl => ?_)
  have L_6 : ∀ (n9 i_6 : Nat), i_6 + n9 = 25 → ∀ (H : Heap) (locs : List Loc) (ls : Array Slot), mW g.1 A (cwM g ad Mx ((ckL x i_6).1)) H → va_S A s.heap H locs → lv_has ls 6 [(0, .ref (ad 0 0)), (1, .int ((ckL x i_6).2)), (2, .int (nI i_6))] → W p l e rm_X1_lakes s m args below meth c H locs (25 * i_6) (50 * i_6) Q (F0 m 8 ls []) := by
    intro n9
    induction n9 with
    | zero =>
      intro i_6 hi H locs ls hM hS hl 
      have hi : 25 = i_6 := by omega
      subst hi
      obtain ⟨x_8, ex_9⟩ : ∃ z : St, (ckL x 25).1 = z := ⟨_, rfl⟩
      rw [ex_9] at hM
      refine lv_iload_n hx hb dX1_lakes_8 rfl (lv_at hl 2 rfl) ?_
      refine lv_bipush (v := 25) hx hb dX1_lakes_9 (by decide) ?_
      refine lv_icmp_ge (tgt := 98) hx hb dX1_lakes_11 (by decide) (fun _ => ?_) (fun c9 => absurd (by decide) c9)
      refine lv_iload_n hx hb dX1_lakes_98 rfl (lv_at hl 1 rfl) ?_
      rw [← hQ]
      exact m_iret () hx hb hr rfl hlk (by rw [ex_9]; exact hM) hS rfl (by first | decide | omega) (by first | decide | omega) dX1_lakes_99
    | succ n9 ih =>
      intro i_6 hi H locs ls hM hS hl 
      have hlt_i_6 : i_6 < 25 := by omega
      obtain ⟨x_11, ex_12⟩ : ∃ z : St, (ckL x i_6).1 = z := ⟨_, rfl⟩
      rw [ex_12] at hM
      refine lv_iload_n hx hb dX1_lakes_8 rfl (lv_at hl 2 rfl) ?_
      refine lv_bipush (v := 25) hx hb dX1_lakes_9 (by decide) ?_
      refine lv_icmp_ge (tgt := 98) hx hb dX1_lakes_11 (by decide) (fun c9 => absurd c9 (nI_ge (a := i_6) (b := 25) (by omega) (by decide))) (fun _ => ?_)
      refine lv_aload_n hx hb dX1_lakes_14 rfl (lv_at hl 0 rfl) ?_
      refine m_get hx hb hts in_X1 hown hE hM 0 0 cw_0 (ci := 0) rfl 8 (by decide) (hts _ q188) (fun _ h9 => h9) rfl dX1_lakes_15 ?_
      refine lv_iload_n hx hb dX1_lakes_18 rfl (lv_at hl 2 rfl) ?_
      refine m_zald hx hb hE hM 11 2 cw_11c i_6 (by omega) (by decide) rfl dX1_lakes_19 ?_
      refine lv_if_ne (tgt := 92) hx hb dX1_lakes_20 (by decide) (fun c_13 => ?_) (fun c_13 => ?_)
      · refine lv_iinc (v := nI (i_6 + 1)) (lv' := [(2, .int (nI (i_6 + 1))), (0, .ref (ad 0 0)), (1, .int ((ckL x i_6).2))]) hx hb dX1_lakes_92 hl (k := 2) rfl (nI_add i_6 1) (by decide) rfl (fun ls hl => ?_)
        refine lv_goto (tgt := 8) hx hb dX1_lakes_95 (by decide) ?_
        refine W.widen (k := 25 * (i_6 + 1)) (n := 50 * (i_6 + 1)) (by first | omega | decide) (by first | omega | decide) ?_
        exact ih (i_6 + 1) (by omega) H locs ls (by have hF : x_11 = (ckL x (i_6 + 1)).1 := (by rw [ckL_s]; unfold ckS; rw [ex_12, if_neg c_13] <;> first | rfl | exact ex_12.symm); rw [← hF]; exact hM) hS (lv_sub hl [1, 2, 0] (by rw [ckL_s]; unfold ckS; rw [ex_12, if_neg c_13] <;> first | rfl | exact ex_12.symm))
      · refine lv_aload_n hx hb dX1_lakes_23 rfl (lv_at hl 0 rfl) ?_
        refine m_get hx hb hts in_X1 hown hE hM 0 0 cw_0 (ci := 0) rfl 0 (by decide) (hts _ q178) (fun _ h9 => h9) rfl dX1_lakes_24 ?_
        refine lv_iload_n hx hb dX1_lakes_27 rfl (lv_at hl 2 rfl) ?_
        refine m_aald hx hb hE hM 1 0 3 cw_1 rfl i_6 (by omega) (by decide) rfl rfl dX1_lakes_28 ?_
        refine m_get hx hb hts in_X2 hown hE hM 2 i_6 (cw_2 (by omega)) (ci := 2) rfl 3 (by decide) (hts _ q144) (fun _ h9 => h9) rfl dX1_lakes_29 ?_
        refine lv_if_le (tgt := 92) hx hb dX1_lakes_32 (by decide) (fun c_15 => ?_) (fun c_15 => ?_)
        · refine lv_iinc (v := nI (i_6 + 1)) (lv' := [(2, .int (nI (i_6 + 1))), (0, .ref (ad 0 0)), (1, .int ((ckL x i_6).2))]) hx hb dX1_lakes_92 hl (k := 2) rfl (nI_add i_6 1) (by decide) rfl (fun ls hl => ?_)
          refine lv_goto (tgt := 8) hx hb dX1_lakes_95 (by decide) ?_
          refine W.widen (k := 25 * (i_6 + 1)) (n := 50 * (i_6 + 1)) (by first | omega | decide) (by first | omega | decide) ?_
          exact ih (i_6 + 1) (by omega) H locs ls (by have hF : x_11 = (ckL x (i_6 + 1)).1 := (by rw [ckL_s]; unfold ckS; rw [ex_12, if_pos c_13, if_pos c_15] <;> first | rfl | exact ex_12.symm); rw [← hF]; exact hM) hS (lv_sub hl [1, 2, 0] (by rw [ckL_s]; unfold ckS; rw [ex_12, if_pos c_13, if_pos c_15] <;> first | rfl | exact ex_12.symm))
        · have h051 := c_13
          refine lv_aload_n hx hb dX1_lakes_35 rfl (lv_at hl 0 rfl) ?_
          refine lv_iload_n hx hb dX1_lakes_36 rfl (lv_at hl 2 rfl) ?_
          refine m_cpi (m_rV (As := [.int (nI i_6)]) (rest := []) hcf (k_X1_spread l g A ad Mx x_11 i_6 (by omega) h051 hMx) (cwV 1 hts (lw_V q223 q225 qs2 q35 q226) rfl rfl rfl (by decide +kernel) ⟨Nat.le_of_ble_eq_true rfl, Nat.le_of_ble_eq_true rfl⟩) hE hA hM hS 0 0 cw_0 (ci := 0) rfl rfl hl.1 rfl (Nat.le_of_ble_eq_true rfl) dX1_lakes_37 ⟨(by show (25 * i_6) + 25 ≤ 625; omega), (by show (50 * i_6) + 50 ≤ 1250; omega)⟩) hS (fun H locs hM hS => ?_)
          obtain ⟨q_18, eq_19⟩ : ∃ z : St × Nat, spF x_11 i_6 = z := ⟨_, rfl⟩
          rw [eq_19] at hM
          refine m_topI (y := nI q_18.2) (by rw [eq_19]) ?_
          have hI := spF_I (x := x_11) (k := i_6) (by omega) h051
          rw [eq_19] at hI
          have h25 := hI.le
          have hpi := hI.2
          refine lv_istore_n (lv' := [(3, .int (nI q_18.2)), (0, .ref (ad 0 0)), (1, .int ((ckL x i_6).2)), (2, .int (nI i_6))]) hx hb dX1_lakes_40 rfl hl (by decide) rfl (fun ls hl => ?_)
          refine lv_iconst (v := 0) hx hb dX1_lakes_41 (by decide) ?_
          refine lv_istore (lv' := [(4, .int 0), (3, .int (nI q_18.2)), (0, .ref (ad 0 0)), (1, .int ((ckL x i_6).2)), (2, .int (nI i_6))]) hx hb dX1_lakes_42 hl (by decide) rfl (fun ls hl => ?_)
          refine lv_iconst (v := 0) hx hb dX1_lakes_44 (by decide) ?_
          refine lv_istore (lv' := [(5, .int 0), (4, .int 0), (3, .int (nI q_18.2)), (0, .ref (ad 0 0)), (1, .int ((ckL x i_6).2)), (2, .int (nI i_6))]) hx hb dX1_lakes_45 hl (by decide) rfl (fun ls hl => ?_)
          have L_24 : ∀ (n9 i_24 : Nat), i_24 + n9 = q_18.2 → ∀ (H : Heap) (locs : List Loc) (ls : Array Slot), mW g.1 A (cwM g ad Mx q_18.1) H → va_S A s.heap H locs → lv_has ls 6 [(0, .ref (ad 0 0)), (1, .int ((ckL x i_6).2)), (2, .int (nI i_6)), (3, .int (nI q_18.2)), (4, .int (ckO q_18.1 i_24)), (5, .int (nI i_24))] → W p l e rm_X1_lakes s m args below meth c H locs (25 * i_6 + 25) (50 * i_6 + 50) Q (F0 m 47 ls []) := by
            intro n9
            induction n9 with
            | zero =>
              intro i_24 hi H locs ls hM hS hl 
              have hi : q_18.2 = i_24 := by omega
              subst hi
              refine lv_iload hx hb dX1_lakes_47 (lv_at hl 5 rfl) ?_
              refine lv_iload_n hx hb dX1_lakes_49 rfl (lv_at hl 3 rfl) ?_
              refine lv_icmp_ge (tgt := 79) hx hb dX1_lakes_50 (by decide) (fun _ => ?_) (fun c9 => absurd (nI_le (Nat.le_refl _) (by omega)) c9)
              refine lv_iload_n hx hb dX1_lakes_79 rfl (lv_at hl 1 rfl) ?_
              refine lv_iload hx hb dX1_lakes_80 (lv_at hl 4 rfl) ?_
              have J_29 : ∀ (v_27 : Int32), ((if (ckO q_18.1 q_18.2) = 0 then 0 else 1) = v_27) → W p l e rm_X1_lakes s m args below meth c H locs (25 * i_6 + 25) (50 * i_6 + 50) Q (F0 m 90 ls [.int v_27, .int ((ckL x i_6).2)]) := by
                intro v_27 ev_28
                refine lv_iadd hx hb dX1_lakes_90 ?_
                refine lv_istore_n (lv' := [(1, .int (((ckL x i_6).2) + v_27)), (0, .ref (ad 0 0)), (2, .int (nI i_6)), (3, .int (nI q_18.2)), (4, .int (ckO q_18.1 q_18.2)), (5, .int (nI q_18.2))]) hx hb dX1_lakes_91 rfl hl (by decide) rfl (fun ls hl => ?_)
                refine lv_iinc (v := nI (i_6 + 1)) (lv' := [(2, .int (nI (i_6 + 1))), (1, .int (((ckL x i_6).2) + v_27)), (0, .ref (ad 0 0)), (3, .int (nI q_18.2)), (4, .int (ckO q_18.1 q_18.2)), (5, .int (nI q_18.2))]) hx hb dX1_lakes_92 hl (k := 2) rfl (nI_add i_6 1) (by decide) rfl (fun ls hl => ?_)
                refine lv_goto (tgt := 8) hx hb dX1_lakes_95 (by decide) ?_
                refine W.widen (k := 25 * (i_6 + 1)) (n := 50 * (i_6 + 1)) (by first | omega | decide) (by first | omega | decide) ?_
                exact ih (i_6 + 1) (by omega) H locs ls (by have hF : q_18.1 = (ckL x (i_6 + 1)).1 := (by subst ev_28; rw [ckL_s]; unfold ckS; rw [ex_12, if_pos c_13, if_neg c_15, eq_19] <;> first | rfl | exact ex_12.symm); rw [← hF]; exact hM) hS (lv_sub hl [2, 1, 0] (by subst ev_28; rw [ckL_s]; unfold ckS; rw [ex_12, if_pos c_13, if_neg c_15, eq_19] <;> first | rfl | exact ex_12.symm))
              refine lv_if_eq (tgt := 89) hx hb dX1_lakes_82 (by decide) (fun c_26 => ?_) (fun c_26 => ?_)
              · refine lv_iconst (v := 0) hx hb dX1_lakes_89 (by decide) ?_
                exact J_29 _ (by first | (rw [if_pos c_26]) | rfl | (simp only [c_26, if_true, if_false, ite_true, ite_false, not_false_eq_true, reduceIte]))
              · refine lv_iconst (v := 1) hx hb dX1_lakes_85 (by decide) ?_
                refine lv_goto (tgt := 90) hx hb dX1_lakes_86 (by decide) ?_
                exact J_29 _ (by first | (rw [if_neg c_26]) | rfl | (simp only [c_26, if_true, if_false, ite_true, ite_false, not_false_eq_true, reduceIte]))
            | succ n9 ih =>
              intro i_24 hi H locs ls hM hS hl 
              have hlt_i_24 : i_24 < q_18.2 := by omega
              have hpj := hpi i_24 (by omega)
              have hpj2 := hpj.2
              refine lv_iload hx hb dX1_lakes_47 (lv_at hl 5 rfl) ?_
              refine lv_iload_n hx hb dX1_lakes_49 rfl (lv_at hl 3 rfl) ?_
              refine lv_icmp_ge (tgt := 79) hx hb dX1_lakes_50 (by decide) (fun c9 => absurd c9 (nI_ge (by omega) (by omega))) (fun _ => ?_)
              refine lv_iload hx hb dX1_lakes_53 (lv_at hl 4 rfl) ?_
              refine lv_aload_n hx hb dX1_lakes_55 rfl (lv_at hl 0 rfl) ?_
              refine m_get hx hb hts in_X1 hown hE hM 0 0 cw_0 (ci := 0) rfl 0 (by decide) (hts _ q178) (fun _ h9 => h9) rfl dX1_lakes_56 ?_
              refine lv_aload_n hx hb dX1_lakes_59 rfl (lv_at hl 0 rfl) ?_
              refine m_get hx hb hts in_X1 hown hE hM 0 0 cw_0 (ci := 0) rfl 9 (by decide) (hts _ q189) (fun _ h9 => h9) rfl dX1_lakes_60 ?_
              refine lv_iload hx hb dX1_lakes_63 (lv_at hl 5 rfl) ?_
              refine m_iald hx hb hE hM 11 3 cw_11d i_24 (by omega) (by decide) rfl dX1_lakes_65 ?_
              refine m_topI (y := nI (nt q_18.1 50 i_24)) (hpj.1) ?_
              refine m_aald hx hb hE hM 1 0 3 cw_1 rfl (nt q_18.1 50 i_24) (by omega) (by decide) rfl rfl dX1_lakes_66 ?_
              refine m_cpi (m_rV (As := []) (rest := [.int (ckO q_18.1 i_24)]) hcf (k_X2_isLake l g A ad Mx q_18.1 (nt q_18.1 50 i_24) (by omega)) (cwV 0 hts (lw_V q367 q368 q369 q39 q370) rfl rfl rfl (by decide +kernel) ⟨Nat.le_of_ble_eq_true rfl, Nat.le_of_ble_eq_true rfl⟩) hE hA hM hS 2 (nt q_18.1 50 i_24) (cw_2 (by omega)) (ci := 2) rfl rfl hl.1 rfl (Nat.le_of_ble_eq_true rfl) dX1_lakes_67 ⟨(by show (25 * i_6 + 25) + 0 ≤ 625; omega), (by show (50 * i_6 + 50) + 0 ≤ 1250; omega)⟩) hS (fun H locs hM hS => ?_)
              refine lv_ior hx hb dX1_lakes_70 ?_
              refine lv_istore (lv' := [(4, .int ((ckO q_18.1 i_24) ||| (clkF q_18.1 (nt q_18.1 50 i_24)))), (0, .ref (ad 0 0)), (1, .int ((ckL x i_6).2)), (2, .int (nI i_6)), (3, .int (nI q_18.2)), (5, .int (nI i_24))]) hx hb dX1_lakes_71 hl (by decide) rfl (fun ls hl => ?_)
              refine lv_iinc (v := nI (i_24 + 1)) (lv' := [(5, .int (nI (i_24 + 1))), (4, .int ((ckO q_18.1 i_24) ||| (clkF q_18.1 (nt q_18.1 50 i_24)))), (0, .ref (ad 0 0)), (1, .int ((ckL x i_6).2)), (2, .int (nI i_6)), (3, .int (nI q_18.2))]) hx hb dX1_lakes_73 hl (k := 5) rfl (nI_add i_24 1) (by decide) rfl (fun ls hl => ?_)
              refine lv_goto (tgt := 47) hx hb dX1_lakes_76 (by decide) ?_
              exact ih (i_24 + 1) (by omega) H locs ls hM hS (lv_sub hl [2, 3, 4, 5, 1, 0] (by rfl))
          exact L_24 (q_18.2) 0 (by omega) H locs ls hM hS (lv_sub hl [3, 4, 5, 2, 1, 0] rfl)
  refine W.widen (k := 0) (n := 0) (by first | omega | decide) (by first | omega | decide) ?_
  rw [← ex_2, ckL_f] at hM
  rw [ckL_g x] at hl
  exact L_6 (25) 0 (by omega) H locs ls hM hS (lv_sub hl [2, 1, 0] rfl)
