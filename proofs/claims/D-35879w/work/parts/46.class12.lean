/-! the land's own methods: month, forget, ground, moss, fire, air, layerOf -/
set_option maxRecDepth 100000
def fgtF (x : St) : Nat → St := it (fun y c => sI y 51 c 0) x
theorem fgtF_s (x : St) (i : Nat) : fgtF x (i + 1) = sI (fgtF x i) 51 i 0 := it_succ _ _ _
theorem inF_gas {k : Nat} (h : k < 2) : inF (nI k) 0 1 = 1 := by
  have key : ∀ k, k < 2 → inF (nI k) 0 1 = 1 := by decide +kernel
  exact key k h
theorem inF_six {k : Nat} (h : k < 6) : inF (nI k) 0 5 = 1 := by
  have key : ∀ k, k < 6 → inF (nI k) 0 5 = 1 := by decide +kernel
  exact key k h
def cfiG (x : St) (k : Nat) : Int32 := x.1 11 (5 * k + 0) / 2
def cfiF (x : St) (k : Nat) : St := sL (sI (sI x 11 (5 * k + 0) (x.1 11 (5 * k + 0) - cfiG x k)) 5 k 0) (30 + 0) (x.2 (30 + 0) + (cfiG x k).toInt64)
def claF (x : St) (j w : Nat) : Int32 := if w = 0 then cdeg x j else if w = 1 then x.1 10 j else if w = 2 then x.1 8 j else if w = 3 then x.1 9 j else if w = 4 then x.1 11 j else cmel x j
def cgrW (a2 a3 a4 a5 : Int32) : Int32 := (if (inF a2 0 9) = 0 then 0 else (if (inF a3 0 9) = 0 then 0 else (if (inF a4 (-5000) 30000) = 0 then 0 else (if (inF a5 0 1000) = 0 then 0 else 1))) : Int32)
def cfiW (x : St) (k : Nat) : Int32 := (if (clkF x k) = 0 then (if (x.1 4 k) = 0 then 1 else 0) else 0 : Int32)
abbrev rm_X1_month : Room := { frames := 0, cells := 0, slots := 0, locals := 0 }
set_option maxHeartbeats 400000 in
theorem k_X1_month (l : Launch) (g : GG) (A : Nat → Prop) (ad : Nat → Nat → Nat) (Mx : MM) (x : St) : Met l yX1_month (ws_ yX1_month cX1_month 1 (some .int)) rm_X1_month (va_Pc [.ref (ad 0 0)] (mPre g A (cwM g ad Mx x))) (pQi g A (x.1 1 0) (cwM g ad Mx x)) 0 0 A := by
  refine m_start RX1 rfl (by decide) (Nat.le_of_ble_eq_true rfl) ?_
  intro p e s m args below meth c hcf hr hlk hnm hE hA H locs hM hS ls hl
  have hx := hcf.1
  have hb := hcf.2.1
  have hml := hcf.2.2.1
  have hown := hcf.2.2.2.1
  have hts := hcf.2.2.2.2
  have hl : lv_has ls 1 [(0, .ref (ad 0 0))] := hl
  generalize hQ : MQ below (pQi g A (x.1 1 0) (cwM g ad Mx x)) args s 0 0 A = Q
  refine lv_aload_n hx hb dX1_month_0 rfl (lv_at hl 0 rfl) ?_
  refine m_get hx hb hts in_X1 hown hE hM 0 0 cw_0 (ci := 0) rfl 7 (by decide) (hts _ q187) (fun _ h9 => h9) rfl dX1_month_1 ?_
  rw [← hQ]
  exact m_iret () hx hb hr rfl hlk hM hS (by first | rfl) (by first | decide | omega) (by first | decide | omega) dX1_month_4

abbrev rm_X1_forget : Room := { frames := 0, cells := 0, slots := 0, locals := 0 }
set_option maxHeartbeats 400000 in
theorem k_X1_forget (l : Launch) (g : GG) (A : Nat → Prop) (ad : Nat → Nat → Nat) (Mx : MM) (x : St) : Met l yX1_forget (ws_ yX1_forget cX1_forget 2 none) rm_X1_forget (va_Pc [.ref (ad 0 0)] (mPre g A (cwM g ad Mx x))) (pQv g A (cwM g ad Mx (fgtF x 25))) 0 0 A := by
  refine m_start RX1 rfl (by decide) (Nat.le_of_ble_eq_true rfl) ?_
  intro p e s m args below meth c hcf hr hlk hnm hE hA H locs hM hS ls hl
  have hx := hcf.1
  have hb := hcf.2.1
  have hml := hcf.2.2.1
  have hown := hcf.2.2.2.1
  have hts := hcf.2.2.2.2
  have hl : lv_has ls 2 [(0, .ref (ad 0 0))] := hl
  generalize hQ : MQ below (pQv g A (cwM g ad Mx (fgtF x 25))) args s 0 0 A = Q
  refine lv_iconst (v := 0) hx hb dX1_forget_0 (by decide) ?_
  refine lv_istore_n (lv' := [(1, .int 0), (0, .ref (ad 0 0))]) hx hb dX1_forget_1 rfl hl (by decide) rfl (fun ls hl => ?_)
  have L_2 : ∀ (n9 i_2 : Nat), i_2 + n9 = 25 → ∀ (H : Heap) (locs : List Loc) (ls : Array Slot), mW g.1 A (cwM g ad Mx (fgtF x i_2)) H → va_S A s.heap H locs → lv_has ls 2 [(0, .ref (ad 0 0)), (1, .int (nI i_2))] → W p l e rm_X1_forget s m args below meth c H locs 0 0 Q (F0 m 2 ls []) := by
    intro n9
    induction n9 with
    | zero =>
      intro i_2 hi H locs ls hM hS hl 
      have hi : 25 = i_2 := by omega
      subst hi
      obtain ⟨x_4, ex_5⟩ : ∃ z : St, fgtF x 25 = z := ⟨_, rfl⟩
      rw [ex_5] at hM
      refine lv_iload_n hx hb dX1_forget_2 rfl (lv_at hl 1 rfl) ?_
      refine lv_bipush (v := 25) hx hb dX1_forget_3 (by decide) ?_
      refine lv_icmp_ge (tgt := 21) hx hb dX1_forget_5 (by decide) (fun _ => ?_) (fun c9 => absurd (by decide) c9)
      rw [← hQ]
      exact m_vret () hx hb hr hlk (by have hF : x_4 = fgtF x 25 := (by subst ex_5; first | rfl); rw [← hF]; exact hM) hS trivial (by first | decide | omega) (by first | decide | omega) dX1_forget_21
    | succ n9 ih =>
      intro i_2 hi H locs ls hM hS hl 
      have hlt_i_2 : i_2 < 25 := by omega
      obtain ⟨x_7, ex_8⟩ : ∃ z : St, fgtF x i_2 = z := ⟨_, rfl⟩
      rw [ex_8] at hM
      refine lv_iload_n hx hb dX1_forget_2 rfl (lv_at hl 1 rfl) ?_
      refine lv_bipush (v := 25) hx hb dX1_forget_3 (by decide) ?_
      refine lv_icmp_ge (tgt := 21) hx hb dX1_forget_5 (by decide) (fun c9 => absurd c9 (nI_ge (a := i_2) (b := 25) (by omega) (by decide))) (fun _ => ?_)
      refine lv_aload_n hx hb dX1_forget_8 rfl (lv_at hl 0 rfl) ?_
      refine m_get hx hb hts in_X1 hown hE hM 0 0 cw_0 (ci := 0) rfl 8 (by decide) (hts _ q188) (fun _ h9 => h9) rfl dX1_forget_9 ?_
      refine lv_iload_n hx hb dX1_forget_12 rfl (lv_at hl 1 rfl) ?_
      refine lv_iconst (v := 0) hx hb dX1_forget_13 (by decide) ?_
      refine cs_st hcf hE hM hS i_2 (by omega) (by decide) rfl dX1_forget_14 (fun x_9 H locs ex_10 hM hS => ?_)
      refine lv_iinc (v := nI (i_2 + 1)) (lv' := [(1, .int (nI (i_2 + 1))), (0, .ref (ad 0 0))]) hx hb dX1_forget_15 hl (k := 1) rfl (nI_add i_2 1) (by decide) rfl (fun ls hl => ?_)
      refine lv_goto (tgt := 2) hx hb dX1_forget_18 (by decide) ?_
      exact ih (i_2 + 1) (by omega) H locs ls (by have hF : x_9 = fgtF x (i_2 + 1) := (by subst ex_10 ex_8; exact (fgtF_s _ _).symm); rw [← hF]; exact hM) hS (lv_sub hl [1, 0] (by subst ex_10 ex_8; rfl))
  exact L_2 (25) 0 (by omega) H locs ls hM hS (lv_sub hl [1, 0] rfl)

abbrev rm_X1_ground_ok : Room := { frames := 3, cells := 0, slots := 0, locals := 66 }
set_option maxHeartbeats 400000 in
theorem k_X1_ground_ok (l : Launch) (g : GG) (A : Nat → Prop) (ad : Nat → Nat → Nat) (Mx : MM) (x : St) (k n : Nat) (hk : k < 25) (hn : n < 5) (a2 a3 a4 a5 : Int32) (hw : cgrW a2 a3 a4 a5 = 1) : Met l yX1_ground (ws_ yX1_ground cX1_ground 8 none) rm_X1_ground_ok (va_Pc [.ref (ad 0 0), .int (nI k), .int (nI n), .int a2, .int a3, .int a4, .int a5] (mPre g A (cwM g ad Mx x))) (pQv g A (cwM g ad Mx (groF x (5 * k + n) a2 a3 a4 a5))) 0 0 A := by
  refine m_start RX1 rfl (by decide) (Nat.le_of_ble_eq_true rfl) ?_
  intro p e s m args below meth c hcf hr hlk hnm hE hA H locs hM hS ls hl
  have hx := hcf.1
  have hb := hcf.2.1
  have hml := hcf.2.2.1
  have hown := hcf.2.2.2.1
  have hts := hcf.2.2.2.2
  have hl : lv_has ls 8 [(0, .ref (ad 0 0)), (1, .int (nI k)), (2, .int (nI n)), (3, .int a2), (4, .int a3), (5, .int a4), (6, .int a5)] := hl
  generalize hQ : MQ below (pQv g A (cwM g ad Mx (groF x (5 * k + n) a2 a3 a4 a5))) args s 0 0 A = Q
  refine lv_aload_n hx hb dX1_ground_0 rfl (lv_at hl 0 rfl) ?_
  refine lv_iload_n hx hb dX1_ground_1 rfl (lv_at hl 1 rfl) ?_
  refine lv_iload_n hx hb dX1_ground_2 rfl (lv_at hl 2 rfl) ?_
  refine m_cpr (m_rV (As := [.int (nI k), .int (nI n)]) (rest := []) hcf (k_X1_layerAt_ok l g A ad Mx x k n hk hn) (cwV 2 hts (lw_V q412 q414 qs6 q35 q415) rfl rfl rfl (by decide +kernel) ⟨Nat.le_of_ble_eq_true rfl, Nat.le_of_ble_eq_true rfl⟩) hE hA hM hS 0 0 cw_0 (ci := 0) rfl rfl hl.1 rfl (Nat.le_of_ble_eq_true rfl) dX1_ground_3 ⟨Nat.le_of_ble_eq_true rfl, Nat.le_of_ble_eq_true rfl⟩) hS (fun H locs hM hS => ?_)
  refine lv_astore (lv' := [(7, .ref (ad 4 (5 * k + n))), (0, .ref (ad 0 0)), (1, .int (nI k)), (2, .int (nI n)), (3, .int a2), (4, .int a3), (5, .int a4), (6, .int a5)]) hx hb dX1_ground_6 hl (by decide) rfl (fun ls hl => ?_)
  refine lv_iload_n hx hb dX1_ground_8 rfl (lv_at hl 4 rfl) ?_
  refine lv_iconst (v := 0) hx hb dX1_ground_9 (by decide) ?_
  refine lv_bipush (v := 9) hx hb dX1_ground_10 (by decide) ?_
  refine m_cpi (m_rS (As := [.int a2, .int 0, .int 9]) (rest := []) hcf (k_X1_isIn l g A (cwM g ad Mx x) a2 0 9) (va_cwS 3 hts (lw_S q420 q421 q35 q422) rfl rfl rfl (by decide +kernel) ⟨Nat.le_of_ble_eq_true rfl, Nat.le_of_ble_eq_true rfl⟩) hE hA hM hS rfl hl.1 rfl (Nat.le_of_ble_eq_true rfl) dX1_ground_12 ⟨Nat.le_of_ble_eq_true rfl, Nat.le_of_ble_eq_true rfl⟩) hS (fun H locs hM hS => ?_)
  have J_21 : ∀ (H : Heap) (locs : List Loc) (v_19 : Int32), mW g.1 A (cwM g ad Mx x) H → va_S A s.heap H locs → ((if (inF a2 0 9) = 0 then 0 else (if (inF a3 0 9) = 0 then 0 else (if (inF a4 (-5000) 30000) = 0 then 0 else (if (inF a5 0 1000) = 0 then 0 else 1)))) = v_19) → W p l e rm_X1_ground_ok s m args below meth c H locs 0 0 Q (F0 m 60 ls [.int v_19]) := by
    intro H locs v_19 hM hS ev_20
    refine m_topI (y := 1) ((by subst ev_20; exact hw)) ?_
    refine m_cpv (m_rS (As := [.int 1]) (rest := []) hcf (k_X1_inRange_ok l g A (cwM g ad Mx x)) (va_cwS 1 hts (lw_S q439 q440 q35 q441) rfl rfl rfl (by decide +kernel) ⟨Nat.le_of_ble_eq_true rfl, Nat.le_of_ble_eq_true rfl⟩) hE hA hM hS rfl hl.1 rfl (Nat.le_of_ble_eq_true rfl) dX1_ground_60 ⟨Nat.le_of_ble_eq_true rfl, Nat.le_of_ble_eq_true rfl⟩) hS (fun H locs hM hS => ?_)
    refine lv_aload_n hx hb dX1_ground_63 rfl (lv_at hl 1 rfl) ?_
    refine m_get hx hb hts in_X1 hown hE hM 0 0 cw_0 (ci := 0) rfl 5 (by decide) (hts _ q185) (fun _ h9 => h9) rfl dX1_ground_64 ?_
    refine lv_iconst (v := 0) hx hb dX1_ground_67 (by decide) ?_
    refine lv_dup2_11 hx hb dX1_ground_68 rfl rfl ?_
    refine ca_ld hcf hE hM 0 (by omega) rfl dX1_ground_69 ?_
    refine lv_iload hx hb dX1_ground_70 (lv_at hl 6 rfl) ?_
    refine lv_aload hx hb dX1_ground_72 (lv_at hl 0 rfl) ?_
    refine m_get hx hb hts in_X3 hown hE hM 4 (5 * k + n) (cw_4 (by omega)) (ci := 3) rfl 2 (by decide) (hts _ q120) (fun _ h9 => h9) rfl dX1_ground_74 ?_
    refine lv_isub hx hb dX1_ground_77 ?_
    refine lv_i2l hx hb dX1_ground_78 rfl ?_
    refine lv_ladd hx hb dX1_ground_79 ?_
    refine ca_st hcf hE hM hS 0 (by omega) rfl dX1_ground_80 (fun x_23 H locs ex_24 hM hS => ?_)
    refine lv_aload_n hx hb dX1_ground_81 rfl (lv_at hl 1 rfl) ?_
    refine m_get hx hb hts in_X1 hown hE hM 0 0 cw_0 (ci := 0) rfl 5 (by decide) (hts _ q185) (fun _ h9 => h9) rfl dX1_ground_82 ?_
    refine lv_iconst (v := 1) hx hb dX1_ground_85 (by decide) ?_
    refine lv_dup2_11 hx hb dX1_ground_86 rfl rfl ?_
    refine ca_ld hcf hE hM 1 (by omega) rfl dX1_ground_87 ?_
    refine lv_iload_n hx hb dX1_ground_88 rfl (lv_at hl 4 rfl) ?_
    refine lv_iload hx hb dX1_ground_89 (lv_at hl 5 rfl) ?_
    refine lv_iadd hx hb dX1_ground_91 ?_
    refine lv_aload hx hb dX1_ground_92 (lv_at hl 0 rfl) ?_
    refine m_get hx hb hts in_X3 hown hE hM 4 (5 * k + n) (cw_4 (by omega)) (ci := 3) rfl 0 (by decide) (hts _ q114) (fun _ h9 => h9) rfl dX1_ground_94 ?_
    refine lv_isub hx hb dX1_ground_97 ?_
    refine lv_aload hx hb dX1_ground_98 (lv_at hl 0 rfl) ?_
    refine m_get hx hb hts in_X3 hown hE hM 4 (5 * k + n) (cw_4 (by omega)) (ci := 3) rfl 1 (by decide) (hts _ q117) (fun _ h9 => h9) rfl dX1_ground_100 ?_
    refine lv_isub hx hb dX1_ground_103 ?_
    refine lv_i2l hx hb dX1_ground_104 rfl ?_
    refine lv_ladd hx hb dX1_ground_105 ?_
    refine ca_st hcf hE hM hS 1 (by omega) rfl dX1_ground_106 (fun x_25 H locs ex_26 hM hS => ?_)
    refine lv_aload_n hx hb dX1_ground_107 rfl (lv_at hl 1 rfl) ?_
    refine m_get hx hb hts in_X1 hown hE hM 0 0 cw_0 (ci := 0) rfl 5 (by decide) (hts _ q185) (fun _ h9 => h9) rfl dX1_ground_108 ?_
    refine lv_iconst (v := 2) hx hb dX1_ground_111 (by decide) ?_
    refine lv_dup2_11 hx hb dX1_ground_112 rfl rfl ?_
    refine ca_ld hcf hE hM 2 (by omega) rfl dX1_ground_113 ?_
    refine lv_iload hx hb dX1_ground_114 (lv_at hl 7 rfl) ?_
    refine lv_aload hx hb dX1_ground_116 (lv_at hl 0 rfl) ?_
    refine m_get hx hb hts in_X3 hown hE hM 4 (5 * k + n) (cw_4 (by omega)) (ci := 3) rfl 3 (by decide) (hts _ q122) (fun _ h9 => h9) rfl dX1_ground_118 ?_
    refine lv_isub hx hb dX1_ground_121 ?_
    refine lv_i2l hx hb dX1_ground_122 rfl ?_
    refine lv_ladd hx hb dX1_ground_123 ?_
    refine ca_st hcf hE hM hS 2 (by omega) rfl dX1_ground_124 (fun x_27 H locs ex_28 hM hS => ?_)
    refine lv_aload hx hb dX1_ground_125 (lv_at hl 0 rfl) ?_
    refine lv_iload_n hx hb dX1_ground_127 rfl (lv_at hl 4 rfl) ?_
    refine cl_put hcf hE hM hS (5 * k + n) (by omega) 0 (by decide) q114 rfl rfl rfl a2 rfl dX1_ground_128 (fun x_29 H locs ex_30 hM hS => ?_)
    refine lv_aload hx hb dX1_ground_131 (lv_at hl 0 rfl) ?_
    refine lv_iload hx hb dX1_ground_133 (lv_at hl 5 rfl) ?_
    refine cl_put hcf hE hM hS (5 * k + n) (by omega) 1 (by decide) q117 rfl rfl rfl a3 rfl dX1_ground_135 (fun x_31 H locs ex_32 hM hS => ?_)
    refine lv_aload hx hb dX1_ground_138 (lv_at hl 0 rfl) ?_
    refine lv_iload hx hb dX1_ground_140 (lv_at hl 6 rfl) ?_
    refine cl_put hcf hE hM hS (5 * k + n) (by omega) 2 (by decide) q120 rfl rfl rfl a4 rfl dX1_ground_142 (fun x_33 H locs ex_34 hM hS => ?_)
    refine lv_aload hx hb dX1_ground_145 (lv_at hl 0 rfl) ?_
    refine lv_iload hx hb dX1_ground_147 (lv_at hl 7 rfl) ?_
    refine cl_put hcf hE hM hS (5 * k + n) (by omega) 3 (by decide) q122 rfl rfl rfl a5 rfl dX1_ground_149 (fun x_35 H locs ex_36 hM hS => ?_)
    rw [← hQ]
    exact m_vret () hx hb hr hlk (by have hF : x_35 = groF x (5 * k + n) a2 a3 a4 a5 := (by subst ex_36 ex_34 ex_32 ex_30 ex_28 ex_26 ex_24 ev_20; first | rfl | (unfold groF; rfl)); rw [← hF]; exact hM) hS trivial (by first | decide | omega) (by first | decide | omega) dX1_ground_152
  refine lv_if_eq (tgt := 59) hx hb dX1_ground_15 (by decide) (fun c_6 => ?_) (fun c_6 => ?_)
  · refine lv_iconst (v := 0) hx hb dX1_ground_59 (by decide) ?_
    exact J_21 H locs _ hM hS (by first | (rw [if_pos c_6]) | rfl | (simp only [c_6, if_true, if_false, ite_true, ite_false, not_false_eq_true, reduceIte]))
  · refine lv_iload hx hb dX1_ground_18 (lv_at hl 5 rfl) ?_
    refine lv_iconst (v := 0) hx hb dX1_ground_20 (by decide) ?_
    refine lv_bipush (v := 9) hx hb dX1_ground_21 (by decide) ?_
    refine m_cpi (m_rS (As := [.int a3, .int 0, .int 9]) (rest := []) hcf (k_X1_isIn l g A (cwM g ad Mx x) a3 0 9) (va_cwS 3 hts (lw_S q420 q421 q35 q422) rfl rfl rfl (by decide +kernel) ⟨Nat.le_of_ble_eq_true rfl, Nat.le_of_ble_eq_true rfl⟩) hE hA hM hS rfl hl.1 rfl (Nat.le_of_ble_eq_true rfl) dX1_ground_23 ⟨Nat.le_of_ble_eq_true rfl, Nat.le_of_ble_eq_true rfl⟩) hS (fun H locs hM hS => ?_)
    refine lv_if_eq (tgt := 59) hx hb dX1_ground_26 (by decide) (fun c_10 => ?_) (fun c_10 => ?_)
    · refine lv_iconst (v := 0) hx hb dX1_ground_59 (by decide) ?_
      exact J_21 H locs _ hM hS (by first | (rw [if_neg c_6, if_pos c_10]) | rfl | (simp only [c_6, c_10, if_true, if_false, ite_true, ite_false, not_false_eq_true, reduceIte]))
    · refine lv_iload hx hb dX1_ground_29 (lv_at hl 6 rfl) ?_
      refine lv_sipush (v := (-5000)) hx hb dX1_ground_31 (by decide) ?_
      refine lv_sipush (v := 30000) hx hb dX1_ground_34 (by decide) ?_
      refine m_cpi (m_rS (As := [.int a4, .int (-5000), .int 30000]) (rest := []) hcf (k_X1_isIn l g A (cwM g ad Mx x) a4 (-5000) 30000) (va_cwS 3 hts (lw_S q420 q421 q35 q422) rfl rfl rfl (by decide +kernel) ⟨Nat.le_of_ble_eq_true rfl, Nat.le_of_ble_eq_true rfl⟩) hE hA hM hS rfl hl.1 rfl (Nat.le_of_ble_eq_true rfl) dX1_ground_37 ⟨Nat.le_of_ble_eq_true rfl, Nat.le_of_ble_eq_true rfl⟩) hS (fun H locs hM hS => ?_)
      refine lv_if_eq (tgt := 59) hx hb dX1_ground_40 (by decide) (fun c_14 => ?_) (fun c_14 => ?_)
      · refine lv_iconst (v := 0) hx hb dX1_ground_59 (by decide) ?_
        exact J_21 H locs _ hM hS (by first | (rw [if_neg c_6, if_neg c_10, if_pos c_14]) | rfl | (simp only [c_6, c_10, c_14, if_true, if_false, ite_true, ite_false, not_false_eq_true, reduceIte]))
      · refine lv_iload hx hb dX1_ground_43 (lv_at hl 7 rfl) ?_
        refine lv_iconst (v := 0) hx hb dX1_ground_45 (by decide) ?_
        refine lv_sipush (v := 1000) hx hb dX1_ground_46 (by decide) ?_
        refine m_cpi (m_rS (As := [.int a5, .int 0, .int 1000]) (rest := []) hcf (k_X1_isIn l g A (cwM g ad Mx x) a5 0 1000) (va_cwS 3 hts (lw_S q420 q421 q35 q422) rfl rfl rfl (by decide +kernel) ⟨Nat.le_of_ble_eq_true rfl, Nat.le_of_ble_eq_true rfl⟩) hE hA hM hS rfl hl.1 rfl (Nat.le_of_ble_eq_true rfl) dX1_ground_49 ⟨Nat.le_of_ble_eq_true rfl, Nat.le_of_ble_eq_true rfl⟩) hS (fun H locs hM hS => ?_)
        refine lv_if_eq (tgt := 59) hx hb dX1_ground_52 (by decide) (fun c_18 => ?_) (fun c_18 => ?_)
        · refine lv_iconst (v := 0) hx hb dX1_ground_59 (by decide) ?_
          exact J_21 H locs _ hM hS (by first | (rw [if_neg c_6, if_neg c_10, if_neg c_14, if_pos c_18]) | rfl | (simp only [c_6, c_10, c_14, c_18, if_true, if_false, ite_true, ite_false, not_false_eq_true, reduceIte]))
        · refine lv_iconst (v := 1) hx hb dX1_ground_55 (by decide) ?_
          refine lv_goto (tgt := 60) hx hb dX1_ground_56 (by decide) ?_
          exact J_21 H locs _ hM hS (by first | (rw [if_neg c_6, if_neg c_10, if_neg c_14, if_neg c_18]) | rfl | (simp only [c_6, c_10, c_14, c_18, if_true, if_false, ite_true, ite_false, not_false_eq_true, reduceIte]))

abbrev rm_X1_ground_n1 : Room := { frames := 9, cells := 1, slots := 6, locals := 146 }
set_option maxHeartbeats 400000 in
theorem k_X1_ground_n1 (l : Launch) (g : GG) (A : Nat → Prop) (hlt : l.stackTraces = false) (ad : Nat → Nat → Nat) (Mx : MM) (x : St) (a0 a1 a2 a3 a4 a5 : Int32) (h0 : inF a0 0 24 = 0) : vx_Met l yX1_ground (ws_ yX1_ground cX1_ground 8 none) rm_X1_ground_n1 (va_Pc [.ref (ad 0 0), .int a0, .int a1, .int a2, .int a3, .int a4, .int a5] (mPre g A (cwM g ad Mx x))) pNo (mX g A "java/lang/IndexOutOfBoundsException" (cwM g ad Mx x)) 1 6 A := by
  refine m_startX RX1 rfl (by decide) (Nat.le_of_ble_eq_true rfl) ?_
  intro p e s m args below meth c hcf hr hlk hnm hE hA ht H locs hM hS ls hl
  have hx := hcf.1
  have hb := hcf.2.1
  have hml := hcf.2.2.1
  have hown := hcf.2.2.2.1
  have hts := hcf.2.2.2.2
  have hl : lv_has ls 8 [(0, .ref (ad 0 0)), (1, .int a0), (2, .int a1), (3, .int a2), (4, .int a3), (5, .int a4), (6, .int a5)] := hl
  generalize hQ : vx_MQ below pNo (mX g A "java/lang/IndexOutOfBoundsException" (cwM g ad Mx x)) args s 1 6 A = Q
  refine lv_aload_n hx hb dX1_ground_0 rfl (lv_at hl 0 rfl) ?_
  refine lv_iload_n hx hb dX1_ground_1 rfl (lv_at hl 1 rfl) ?_
  refine lv_iload_n hx hb dX1_ground_2 rfl (lv_at hl 2 rfl) ?_
  rw [← hQ]
  exact m_xend (m_xV (As := [.int a0, .int a1]) (rest := []) hcf (k_X1_layerAt_n1 l g A hlt ad Mx x a0 a1 h0) (cwV 2 hts (lw_V q412 q414 qs6 q35 q415) rfl rfl rfl (by decide +kernel) ⟨Nat.le_of_ble_eq_true rfl, Nat.le_of_ble_eq_true rfl⟩) hE hA hM hS 0 0 cw_0 (ci := 0) rfl rfl hl.1 rfl (Nat.le_of_ble_eq_true rfl) dX1_ground_3 ⟨Nat.le_of_ble_eq_true rfl, Nat.le_of_ble_eq_true rfl⟩) ht hlk hS (Nat.le_of_ble_eq_true rfl) (Nat.le_of_ble_eq_true rfl)

abbrev rm_X1_ground_n2 : Room := { frames := 8, cells := 1, slots := 6, locals := 125 }
set_option maxHeartbeats 400000 in
theorem k_X1_ground_n2 (l : Launch) (g : GG) (A : Nat → Prop) (hlt : l.stackTraces = false) (ad : Nat → Nat → Nat) (Mx : MM) (x : St) (k : Nat) (hk : k < 25) (a1 a2 a3 a4 a5 : Int32) (h1 : inF a1 0 4 = 0) : vx_Met l yX1_ground (ws_ yX1_ground cX1_ground 8 none) rm_X1_ground_n2 (va_Pc [.ref (ad 0 0), .int (nI k), .int a1, .int a2, .int a3, .int a4, .int a5] (mPre g A (cwM g ad Mx x))) pNo (mX g A "java/lang/IndexOutOfBoundsException" (cwM g ad Mx x)) 1 6 A := by
  refine m_startX RX1 rfl (by decide) (Nat.le_of_ble_eq_true rfl) ?_
  intro p e s m args below meth c hcf hr hlk hnm hE hA ht H locs hM hS ls hl
  have hx := hcf.1
  have hb := hcf.2.1
  have hml := hcf.2.2.1
  have hown := hcf.2.2.2.1
  have hts := hcf.2.2.2.2
  have hl : lv_has ls 8 [(0, .ref (ad 0 0)), (1, .int (nI k)), (2, .int a1), (3, .int a2), (4, .int a3), (5, .int a4), (6, .int a5)] := hl
  generalize hQ : vx_MQ below pNo (mX g A "java/lang/IndexOutOfBoundsException" (cwM g ad Mx x)) args s 1 6 A = Q
  refine lv_aload_n hx hb dX1_ground_0 rfl (lv_at hl 0 rfl) ?_
  refine lv_iload_n hx hb dX1_ground_1 rfl (lv_at hl 1 rfl) ?_
  refine lv_iload_n hx hb dX1_ground_2 rfl (lv_at hl 2 rfl) ?_
  rw [← hQ]
  exact m_xend (m_xV (As := [.int (nI k), .int a1]) (rest := []) hcf (k_X1_layerAt_n2 l g A hlt ad Mx x k hk a1 h1) (cwV 2 hts (lw_V q412 q414 qs6 q35 q415) rfl rfl rfl (by decide +kernel) ⟨Nat.le_of_ble_eq_true rfl, Nat.le_of_ble_eq_true rfl⟩) hE hA hM hS 0 0 cw_0 (ci := 0) rfl rfl hl.1 rfl (Nat.le_of_ble_eq_true rfl) dX1_ground_3 ⟨Nat.le_of_ble_eq_true rfl, Nat.le_of_ble_eq_true rfl⟩) ht hlk hS (Nat.le_of_ble_eq_true rfl) (Nat.le_of_ble_eq_true rfl)

abbrev rm_X1_ground_n3 : Room := { frames := 7, cells := 1, slots := 6, locals := 102 }
set_option maxHeartbeats 400000 in
theorem k_X1_ground_n3 (l : Launch) (g : GG) (A : Nat → Prop) (hlt : l.stackTraces = false) (ad : Nat → Nat → Nat) (Mx : MM) (x : St) (k n : Nat) (hk : k < 25) (hn : n < 5) (a2 a3 a4 a5 : Int32) (hw : cgrW a2 a3 a4 a5 = 0) : vx_Met l yX1_ground (ws_ yX1_ground cX1_ground 8 none) rm_X1_ground_n3 (va_Pc [.ref (ad 0 0), .int (nI k), .int (nI n), .int a2, .int a3, .int a4, .int a5] (mPre g A (cwM g ad Mx x))) pNo (mX g A "java/lang/IllegalArgumentException" (cwM g ad Mx x)) 1 6 A := by
  refine m_startX RX1 rfl (by decide) (Nat.le_of_ble_eq_true rfl) ?_
  intro p e s m args below meth c hcf hr hlk hnm hE hA ht H locs hM hS ls hl
  have hx := hcf.1
  have hb := hcf.2.1
  have hml := hcf.2.2.1
  have hown := hcf.2.2.2.1
  have hts := hcf.2.2.2.2
  have hl : lv_has ls 8 [(0, .ref (ad 0 0)), (1, .int (nI k)), (2, .int (nI n)), (3, .int a2), (4, .int a3), (5, .int a4), (6, .int a5)] := hl
  generalize hQ : vx_MQ below pNo (mX g A "java/lang/IllegalArgumentException" (cwM g ad Mx x)) args s 1 6 A = Q
  refine lv_aload_n hx hb dX1_ground_0 rfl (lv_at hl 0 rfl) ?_
  refine lv_iload_n hx hb dX1_ground_1 rfl (lv_at hl 1 rfl) ?_
  refine lv_iload_n hx hb dX1_ground_2 rfl (lv_at hl 2 rfl) ?_
  refine m_cpr (m_rV (As := [.int (nI k), .int (nI n)]) (rest := []) hcf (k_X1_layerAt_ok l g A ad Mx x k n hk hn) (cwV 2 hts (lw_V q412 q414 qs6 q35 q415) rfl rfl rfl (by decide +kernel) ⟨Nat.le_of_ble_eq_true rfl, Nat.le_of_ble_eq_true rfl⟩) hE hA hM hS 0 0 cw_0 (ci := 0) rfl rfl hl.1 rfl (Nat.le_of_ble_eq_true rfl) dX1_ground_3 ⟨Nat.le_of_ble_eq_true rfl, Nat.le_of_ble_eq_true rfl⟩) hS (fun H locs hM hS => ?_)
  refine lv_astore (lv' := [(7, .ref (ad 4 (5 * k + n))), (0, .ref (ad 0 0)), (1, .int (nI k)), (2, .int (nI n)), (3, .int a2), (4, .int a3), (5, .int a4), (6, .int a5)]) hx hb dX1_ground_6 hl (by decide) rfl (fun ls hl => ?_)
  refine lv_iload_n hx hb dX1_ground_8 rfl (lv_at hl 4 rfl) ?_
  refine lv_iconst (v := 0) hx hb dX1_ground_9 (by decide) ?_
  refine lv_bipush (v := 9) hx hb dX1_ground_10 (by decide) ?_
  refine m_cpi (m_rS (As := [.int a2, .int 0, .int 9]) (rest := []) hcf (k_X1_isIn l g A (cwM g ad Mx x) a2 0 9) (va_cwS 3 hts (lw_S q420 q421 q35 q422) rfl rfl rfl (by decide +kernel) ⟨Nat.le_of_ble_eq_true rfl, Nat.le_of_ble_eq_true rfl⟩) hE hA hM hS rfl hl.1 rfl (Nat.le_of_ble_eq_true rfl) dX1_ground_12 ⟨Nat.le_of_ble_eq_true rfl, Nat.le_of_ble_eq_true rfl⟩) hS (fun H locs hM hS => ?_)
  have J_21 : ∀ (H : Heap) (locs : List Loc) (v_19 : Int32), mW g.1 A (cwM g ad Mx x) H → va_S A s.heap H locs → ((if (inF a2 0 9) = 0 then 0 else (if (inF a3 0 9) = 0 then 0 else (if (inF a4 (-5000) 30000) = 0 then 0 else (if (inF a5 0 1000) = 0 then 0 else 1)))) = v_19) → W p l e rm_X1_ground_n3 s m args below meth c H locs 0 0 Q (F0 m 60 ls [.int v_19]) := by
    intro H locs v_19 hM hS ev_20
    refine m_topI (y := 0) ((by subst ev_20; exact hw)) ?_
    rw [← hQ]
    exact m_xend (m_xS (As := [.int 0]) (rest := []) hcf (k_X1_inRange_no l g A hlt (cwM g ad Mx x)) (va_cwS 1 hts (lw_S q439 q440 q35 q441) rfl rfl rfl (by decide +kernel) ⟨Nat.le_of_ble_eq_true rfl, Nat.le_of_ble_eq_true rfl⟩) hE hA hM hS rfl hl.1 rfl (Nat.le_of_ble_eq_true rfl) dX1_ground_60 ⟨Nat.le_of_ble_eq_true rfl, Nat.le_of_ble_eq_true rfl⟩) ht hlk hS (Nat.le_of_ble_eq_true rfl) (Nat.le_of_ble_eq_true rfl)
  refine lv_if_eq (tgt := 59) hx hb dX1_ground_15 (by decide) (fun c_6 => ?_) (fun c_6 => ?_)
  · refine lv_iconst (v := 0) hx hb dX1_ground_59 (by decide) ?_
    exact J_21 H locs _ hM hS (by first | (rw [if_pos c_6]) | rfl | (simp only [c_6, if_true, if_false, ite_true, ite_false, not_false_eq_true, reduceIte]))
  · refine lv_iload hx hb dX1_ground_18 (lv_at hl 5 rfl) ?_
    refine lv_iconst (v := 0) hx hb dX1_ground_20 (by decide) ?_
    refine lv_bipush (v := 9) hx hb dX1_ground_21 (by decide) ?_
    refine m_cpi (m_rS (As := [.int a3, .int 0, .int 9]) (rest := []) hcf (k_X1_isIn l g A (cwM g ad Mx x) a3 0 9) (va_cwS 3 hts (lw_S q420 q421 q35 q422) rfl rfl rfl (by decide +kernel) ⟨Nat.le_of_ble_eq_true rfl, Nat.le_of_ble_eq_true rfl⟩) hE hA hM hS rfl hl.1 rfl (Nat.le_of_ble_eq_true rfl) dX1_ground_23 ⟨Nat.le_of_ble_eq_true rfl, Nat.le_of_ble_eq_true rfl⟩) hS (fun H locs hM hS => ?_)
    refine lv_if_eq (tgt := 59) hx hb dX1_ground_26 (by decide) (fun c_10 => ?_) (fun c_10 => ?_)
    · refine lv_iconst (v := 0) hx hb dX1_ground_59 (by decide) ?_
      exact J_21 H locs _ hM hS (by first | (rw [if_neg c_6, if_pos c_10]) | rfl | (simp only [c_6, c_10, if_true, if_false, ite_true, ite_false, not_false_eq_true, reduceIte]))
    · refine lv_iload hx hb dX1_ground_29 (lv_at hl 6 rfl) ?_
      refine lv_sipush (v := (-5000)) hx hb dX1_ground_31 (by decide) ?_
      refine lv_sipush (v := 30000) hx hb dX1_ground_34 (by decide) ?_
      refine m_cpi (m_rS (As := [.int a4, .int (-5000), .int 30000]) (rest := []) hcf (k_X1_isIn l g A (cwM g ad Mx x) a4 (-5000) 30000) (va_cwS 3 hts (lw_S q420 q421 q35 q422) rfl rfl rfl (by decide +kernel) ⟨Nat.le_of_ble_eq_true rfl, Nat.le_of_ble_eq_true rfl⟩) hE hA hM hS rfl hl.1 rfl (Nat.le_of_ble_eq_true rfl) dX1_ground_37 ⟨Nat.le_of_ble_eq_true rfl, Nat.le_of_ble_eq_true rfl⟩) hS (fun H locs hM hS => ?_)
      refine lv_if_eq (tgt := 59) hx hb dX1_ground_40 (by decide) (fun c_14 => ?_) (fun c_14 => ?_)
      · refine lv_iconst (v := 0) hx hb dX1_ground_59 (by decide) ?_
        exact J_21 H locs _ hM hS (by first | (rw [if_neg c_6, if_neg c_10, if_pos c_14]) | rfl | (simp only [c_6, c_10, c_14, if_true, if_false, ite_true, ite_false, not_false_eq_true, reduceIte]))
      · refine lv_iload hx hb dX1_ground_43 (lv_at hl 7 rfl) ?_
        refine lv_iconst (v := 0) hx hb dX1_ground_45 (by decide) ?_
        refine lv_sipush (v := 1000) hx hb dX1_ground_46 (by decide) ?_
        refine m_cpi (m_rS (As := [.int a5, .int 0, .int 1000]) (rest := []) hcf (k_X1_isIn l g A (cwM g ad Mx x) a5 0 1000) (va_cwS 3 hts (lw_S q420 q421 q35 q422) rfl rfl rfl (by decide +kernel) ⟨Nat.le_of_ble_eq_true rfl, Nat.le_of_ble_eq_true rfl⟩) hE hA hM hS rfl hl.1 rfl (Nat.le_of_ble_eq_true rfl) dX1_ground_49 ⟨Nat.le_of_ble_eq_true rfl, Nat.le_of_ble_eq_true rfl⟩) hS (fun H locs hM hS => ?_)
        refine lv_if_eq (tgt := 59) hx hb dX1_ground_52 (by decide) (fun c_18 => ?_) (fun c_18 => ?_)
        · refine lv_iconst (v := 0) hx hb dX1_ground_59 (by decide) ?_
          exact J_21 H locs _ hM hS (by first | (rw [if_neg c_6, if_neg c_10, if_neg c_14, if_pos c_18]) | rfl | (simp only [c_6, c_10, c_14, c_18, if_true, if_false, ite_true, ite_false, not_false_eq_true, reduceIte]))
        · refine lv_iconst (v := 1) hx hb dX1_ground_55 (by decide) ?_
          refine lv_goto (tgt := 60) hx hb dX1_ground_56 (by decide) ?_
          exact J_21 H locs _ hM hS (by first | (rw [if_neg c_6, if_neg c_10, if_neg c_14, if_neg c_18]) | rfl | (simp only [c_6, c_10, c_14, c_18, if_true, if_false, ite_true, ite_false, not_false_eq_true, reduceIte]))

abbrev rm_X1_moss_ok : Room := { frames := 2, cells := 0, slots := 0, locals := 43 }
set_option maxHeartbeats 400000 in
theorem k_X1_moss_ok (l : Launch) (g : GG) (A : Nat → Prop) (ad : Nat → Nat → Nat) (Mx : MM) (x : St) (k : Nat) (hk : k < 25) (a1 : Int32) (hw : inF a1 0 3 = 1) : Met l yX1_moss (ws_ yX1_moss cX1_moss 5 (some .int)) rm_X1_moss_ok (va_Pc [.ref (ad 0 0), .int (nI k), .int a1] (mPre g A (cwM g ad Mx x))) (pQi g A (x.1 5 k) (cwM g ad Mx (mosF x k a1))) 0 0 A := by
  refine m_start RX1 rfl (by decide) (Nat.le_of_ble_eq_true rfl) ?_
  intro p e s m args below meth c hcf hr hlk hnm hE hA H locs hM hS ls hl
  have hx := hcf.1
  have hb := hcf.2.1
  have hml := hcf.2.2.1
  have hown := hcf.2.2.2.1
  have hts := hcf.2.2.2.2
  have hl : lv_has ls 5 [(0, .ref (ad 0 0)), (1, .int (nI k)), (2, .int a1)] := hl
  generalize hQ : MQ below (pQi g A (x.1 5 k) (cwM g ad Mx (mosF x k a1))) args s 0 0 A = Q
  refine lv_aload_n hx hb dX1_moss_0 rfl (lv_at hl 0 rfl) ?_
  refine lv_iload_n hx hb dX1_moss_1 rfl (lv_at hl 1 rfl) ?_
  refine m_cpr (m_rV (As := [.int (nI k)]) (rest := []) hcf (k_X1_cellAt_ok l g A ad Mx x k (by omega)) (cwV 1 hts (lw_V q416 q418 qs7 q35 q419) rfl rfl rfl (by decide +kernel) ⟨Nat.le_of_ble_eq_true rfl, Nat.le_of_ble_eq_true rfl⟩) hE hA hM hS 0 0 cw_0 (ci := 0) rfl rfl hl.1 rfl (Nat.le_of_ble_eq_true rfl) dX1_moss_2 ⟨Nat.le_of_ble_eq_true rfl, Nat.le_of_ble_eq_true rfl⟩) hS (fun H locs hM hS => ?_)
  refine lv_astore_n (lv' := [(3, .ref (ad 2 k)), (0, .ref (ad 0 0)), (1, .int (nI k)), (2, .int a1)]) hx hb dX1_moss_5 rfl hl (by decide) rfl (fun ls hl => ?_)
  refine lv_iload_n hx hb dX1_moss_6 rfl (lv_at hl 3 rfl) ?_
  refine lv_iconst (v := 0) hx hb dX1_moss_7 (by decide) ?_
  refine lv_iconst (v := 3) hx hb dX1_moss_8 (by decide) ?_
  refine m_cpi (m_rS (As := [.int a1, .int 0, .int 3]) (rest := []) hcf (k_X1_isIn l g A (cwM g ad Mx x) a1 0 3) (va_cwS 3 hts (lw_S q420 q421 q35 q422) rfl rfl rfl (by decide +kernel) ⟨Nat.le_of_ble_eq_true rfl, Nat.le_of_ble_eq_true rfl⟩) hE hA hM hS rfl hl.1 rfl (Nat.le_of_ble_eq_true rfl) dX1_moss_9 ⟨Nat.le_of_ble_eq_true rfl, Nat.le_of_ble_eq_true rfl⟩) hS (fun H locs hM hS => ?_)
  refine m_topI (y := 1) (hw) ?_
  refine m_cpv (m_rS (As := [.int 1]) (rest := []) hcf (k_X1_inRange_ok l g A (cwM g ad Mx x)) (va_cwS 1 hts (lw_S q439 q440 q35 q441) rfl rfl rfl (by decide +kernel) ⟨Nat.le_of_ble_eq_true rfl, Nat.le_of_ble_eq_true rfl⟩) hE hA hM hS rfl hl.1 rfl (Nat.le_of_ble_eq_true rfl) dX1_moss_12 ⟨Nat.le_of_ble_eq_true rfl, Nat.le_of_ble_eq_true rfl⟩) hS (fun H locs hM hS => ?_)
  refine lv_aload_n hx hb dX1_moss_15 rfl (lv_at hl 0 rfl) ?_
  refine m_get hx hb hts in_X2 hown hE hM 2 k (cw_2 (by omega)) (ci := 2) rfl 5 (by decide) (hts _ q148) (fun _ h9 => h9) rfl dX1_moss_16 ?_
  refine lv_istore (lv' := [(4, .int (x.1 5 k)), (3, .ref (ad 2 k)), (0, .ref (ad 0 0)), (1, .int (nI k)), (2, .int a1)]) hx hb dX1_moss_19 hl (by decide) rfl (fun ls hl => ?_)
  refine lv_aload_n hx hb dX1_moss_21 rfl (lv_at hl 1 rfl) ?_
  refine lv_iload_n hx hb dX1_moss_22 rfl (lv_at hl 4 rfl) ?_
  refine cc_put hcf hE hM hS k (by omega) 5 (by decide) (by decide) q148 rfl rfl rfl a1 rfl dX1_moss_23 (fun x_8 H locs ex_9 hM hS => ?_)
  refine lv_iload hx hb dX1_moss_26 (lv_at hl 0 rfl) ?_
  rw [← hQ]
  exact m_iret () hx hb hr rfl hlk (by have hF : x_8 = mosF x k a1 := (by subst ex_9; first | rfl | (unfold mosF; rfl)); rw [← hF]; exact hM) hS (by subst ex_9; first | rfl | (unfold mosF; rfl)) (by first | decide | omega) (by first | decide | omega) dX1_moss_28

abbrev rm_X1_moss_n1 : Room := { frames := 8, cells := 1, slots := 6, locals := 123 }
set_option maxHeartbeats 400000 in
theorem k_X1_moss_n1 (l : Launch) (g : GG) (A : Nat → Prop) (hlt : l.stackTraces = false) (ad : Nat → Nat → Nat) (Mx : MM) (x : St) (a0 a1 : Int32) (h0 : inF a0 0 24 = 0) : vx_Met l yX1_moss (ws_ yX1_moss cX1_moss 5 (some .int)) rm_X1_moss_n1 (va_Pc [.ref (ad 0 0), .int a0, .int a1] (mPre g A (cwM g ad Mx x))) pNo (mX g A "java/lang/IndexOutOfBoundsException" (cwM g ad Mx x)) 1 6 A := by
  refine m_startX RX1 rfl (by decide) (Nat.le_of_ble_eq_true rfl) ?_
  intro p e s m args below meth c hcf hr hlk hnm hE hA ht H locs hM hS ls hl
  have hx := hcf.1
  have hb := hcf.2.1
  have hml := hcf.2.2.1
  have hown := hcf.2.2.2.1
  have hts := hcf.2.2.2.2
  have hl : lv_has ls 5 [(0, .ref (ad 0 0)), (1, .int a0), (2, .int a1)] := hl
  generalize hQ : vx_MQ below pNo (mX g A "java/lang/IndexOutOfBoundsException" (cwM g ad Mx x)) args s 1 6 A = Q
  refine lv_aload_n hx hb dX1_moss_0 rfl (lv_at hl 0 rfl) ?_
  refine lv_iload_n hx hb dX1_moss_1 rfl (lv_at hl 1 rfl) ?_
  rw [← hQ]
  exact m_xend (m_xV (As := [.int a0]) (rest := []) hcf (k_X1_cellAt_no l g A hlt ad Mx x a0 h0) (cwV 1 hts (lw_V q416 q418 qs7 q35 q419) rfl rfl rfl (by decide +kernel) ⟨Nat.le_of_ble_eq_true rfl, Nat.le_of_ble_eq_true rfl⟩) hE hA hM hS 0 0 cw_0 (ci := 0) rfl rfl hl.1 rfl (Nat.le_of_ble_eq_true rfl) dX1_moss_2 ⟨Nat.le_of_ble_eq_true rfl, Nat.le_of_ble_eq_true rfl⟩) ht hlk hS (Nat.le_of_ble_eq_true rfl) (Nat.le_of_ble_eq_true rfl)

abbrev rm_X1_moss_n2 : Room := { frames := 7, cells := 1, slots := 6, locals := 102 }
set_option maxHeartbeats 400000 in
theorem k_X1_moss_n2 (l : Launch) (g : GG) (A : Nat → Prop) (hlt : l.stackTraces = false) (ad : Nat → Nat → Nat) (Mx : MM) (x : St) (k : Nat) (hk : k < 25) (a1 : Int32) (hw : inF a1 0 3 = 0) : vx_Met l yX1_moss (ws_ yX1_moss cX1_moss 5 (some .int)) rm_X1_moss_n2 (va_Pc [.ref (ad 0 0), .int (nI k), .int a1] (mPre g A (cwM g ad Mx x))) pNo (mX g A "java/lang/IllegalArgumentException" (cwM g ad Mx x)) 1 6 A := by
  refine m_startX RX1 rfl (by decide) (Nat.le_of_ble_eq_true rfl) ?_
  intro p e s m args below meth c hcf hr hlk hnm hE hA ht H locs hM hS ls hl
  have hx := hcf.1
  have hb := hcf.2.1
  have hml := hcf.2.2.1
  have hown := hcf.2.2.2.1
  have hts := hcf.2.2.2.2
  have hl : lv_has ls 5 [(0, .ref (ad 0 0)), (1, .int (nI k)), (2, .int a1)] := hl
  generalize hQ : vx_MQ below pNo (mX g A "java/lang/IllegalArgumentException" (cwM g ad Mx x)) args s 1 6 A = Q
  refine lv_aload_n hx hb dX1_moss_0 rfl (lv_at hl 0 rfl) ?_
  refine lv_iload_n hx hb dX1_moss_1 rfl (lv_at hl 1 rfl) ?_
  refine m_cpr (m_rV (As := [.int (nI k)]) (rest := []) hcf (k_X1_cellAt_ok l g A ad Mx x k (by omega)) (cwV 1 hts (lw_V q416 q418 qs7 q35 q419) rfl rfl rfl (by decide +kernel) ⟨Nat.le_of_ble_eq_true rfl, Nat.le_of_ble_eq_true rfl⟩) hE hA hM hS 0 0 cw_0 (ci := 0) rfl rfl hl.1 rfl (Nat.le_of_ble_eq_true rfl) dX1_moss_2 ⟨Nat.le_of_ble_eq_true rfl, Nat.le_of_ble_eq_true rfl⟩) hS (fun H locs hM hS => ?_)
  refine lv_astore_n (lv' := [(3, .ref (ad 2 k)), (0, .ref (ad 0 0)), (1, .int (nI k)), (2, .int a1)]) hx hb dX1_moss_5 rfl hl (by decide) rfl (fun ls hl => ?_)
  refine lv_iload_n hx hb dX1_moss_6 rfl (lv_at hl 3 rfl) ?_
  refine lv_iconst (v := 0) hx hb dX1_moss_7 (by decide) ?_
  refine lv_iconst (v := 3) hx hb dX1_moss_8 (by decide) ?_
  refine m_cpi (m_rS (As := [.int a1, .int 0, .int 3]) (rest := []) hcf (k_X1_isIn l g A (cwM g ad Mx x) a1 0 3) (va_cwS 3 hts (lw_S q420 q421 q35 q422) rfl rfl rfl (by decide +kernel) ⟨Nat.le_of_ble_eq_true rfl, Nat.le_of_ble_eq_true rfl⟩) hE hA hM hS rfl hl.1 rfl (Nat.le_of_ble_eq_true rfl) dX1_moss_9 ⟨Nat.le_of_ble_eq_true rfl, Nat.le_of_ble_eq_true rfl⟩) hS (fun H locs hM hS => ?_)
  refine m_topI (y := 0) (hw) ?_
  rw [← hQ]
  exact m_xend (m_xS (As := [.int 0]) (rest := []) hcf (k_X1_inRange_no l g A hlt (cwM g ad Mx x)) (va_cwS 1 hts (lw_S q439 q440 q35 q441) rfl rfl rfl (by decide +kernel) ⟨Nat.le_of_ble_eq_true rfl, Nat.le_of_ble_eq_true rfl⟩) hE hA hM hS rfl hl.1 rfl (Nat.le_of_ble_eq_true rfl) dX1_moss_12 ⟨Nat.le_of_ble_eq_true rfl, Nat.le_of_ble_eq_true rfl⟩) ht hlk hS (Nat.le_of_ble_eq_true rfl) (Nat.le_of_ble_eq_true rfl)

abbrev rm_X1_fire_ok : Room := { frames := 2, cells := 0, slots := 0, locals := 43 }
set_option maxHeartbeats 400000 in
theorem k_X1_fire_ok (l : Launch) (g : GG) (A : Nat → Prop) (ad : Nat → Nat → Nat) (Mx : MM) (x : St) (k : Nat) (hk : k < 25) (hw : cfiW x k = 1) : Met l yX1_fire (ws_ yX1_fire cX1_fire 4 (some .int)) rm_X1_fire_ok (va_Pc [.ref (ad 0 0), .int (nI k)] (mPre g A (cwM g ad Mx x))) (pQi g A (cfiG x k) (cwM g ad Mx (cfiF x k))) 0 0 A := by
  refine m_start RX1 rfl (by decide) (Nat.le_of_ble_eq_true rfl) ?_
  intro p e s m args below meth c hcf hr hlk hnm hE hA H locs hM hS ls hl
  have hx := hcf.1
  have hb := hcf.2.1
  have hml := hcf.2.2.1
  have hown := hcf.2.2.2.1
  have hts := hcf.2.2.2.2
  have hl : lv_has ls 4 [(0, .ref (ad 0 0)), (1, .int (nI k))] := hl
  generalize hQ : MQ below (pQi g A (cfiG x k) (cwM g ad Mx (cfiF x k))) args s 0 0 A = Q
  refine lv_aload_n hx hb dX1_fire_0 rfl (lv_at hl 0 rfl) ?_
  refine lv_iload_n hx hb dX1_fire_1 rfl (lv_at hl 1 rfl) ?_
  refine m_cpr (m_rV (As := [.int (nI k)]) (rest := []) hcf (k_X1_cellAt_ok l g A ad Mx x k (by omega)) (cwV 1 hts (lw_V q416 q418 qs7 q35 q419) rfl rfl rfl (by decide +kernel) ⟨Nat.le_of_ble_eq_true rfl, Nat.le_of_ble_eq_true rfl⟩) hE hA hM hS 0 0 cw_0 (ci := 0) rfl rfl hl.1 rfl (Nat.le_of_ble_eq_true rfl) dX1_fire_2 ⟨Nat.le_of_ble_eq_true rfl, Nat.le_of_ble_eq_true rfl⟩) hS (fun H locs hM hS => ?_)
  refine lv_astore_n (lv' := [(2, .ref (ad 2 k)), (0, .ref (ad 0 0)), (1, .int (nI k))]) hx hb dX1_fire_5 rfl hl (by decide) rfl (fun ls hl => ?_)
  refine lv_aload_n hx hb dX1_fire_6 rfl (lv_at hl 0 rfl) ?_
  refine m_cpi (m_rV (As := []) (rest := []) hcf (k_X2_isLake l g A ad Mx x k (by omega)) (cwV 0 hts (lw_V q367 q368 q369 q39 q370) rfl rfl rfl (by decide +kernel) ⟨Nat.le_of_ble_eq_true rfl, Nat.le_of_ble_eq_true rfl⟩) hE hA hM hS 2 k (cw_2 (by omega)) (ci := 2) rfl rfl hl.1 rfl (Nat.le_of_ble_eq_true rfl) dX1_fire_7 ⟨Nat.le_of_ble_eq_true rfl, Nat.le_of_ble_eq_true rfl⟩) hS (fun H locs hM hS => ?_)
  have J_8 : ∀ (v_6 : Int32), ((if (clkF x k) = 0 then (if (x.1 4 k) = 0 then 1 else 0) else 0) = v_6) → W p l e rm_X1_fire_ok s m args below meth c H locs 0 0 Q (F0 m 25 ls [.int v_6]) := by
    intro v_6 ev_7
    refine m_topI (y := 1) ((by subst ev_7; exact hw)) ?_
    refine m_cpv (m_rS (As := [.int 1]) (rest := []) hcf (k_X1_allowed_ok l g A (cwM g ad Mx x)) (va_cwS 1 hts (lw_S q473 q474 q35 q475) rfl rfl rfl (by decide +kernel) ⟨Nat.le_of_ble_eq_true rfl, Nat.le_of_ble_eq_true rfl⟩) hE hA hM hS rfl hl.1 rfl (Nat.le_of_ble_eq_true rfl) dX1_fire_25 ⟨Nat.le_of_ble_eq_true rfl, Nat.le_of_ble_eq_true rfl⟩) hS (fun H locs hM hS => ?_)
    refine lv_aload_n hx hb dX1_fire_28 rfl (lv_at hl 0 rfl) ?_
    refine m_get hx hb hts in_X2 hown hE hM 2 k (cw_2 (by omega)) (ci := 2) rfl 1 (by decide) (hts _ q140) (fun _ h9 => h9) rfl dX1_fire_29 ?_
    refine lv_iconst (v := 0) hx hb dX1_fire_32 (by decide) ?_
    refine m_aald hx hb hE hM 3 k 4 (cw_3 (by omega)) rfl 0 (by omega) (by decide) rfl rfl dX1_fire_33 ?_
    refine m_get hx hb hts in_X3 hown hE hM 4 (5 * k + 0) (cw_4 (by omega)) (ci := 3) rfl 3 (by decide) (hts _ q122) (fun _ h9 => h9) rfl dX1_fire_34 ?_
    refine lv_iconst (v := 2) hx hb dX1_fire_37 (by decide) ?_
    refine lv_idiv hx hb dX1_fire_38 (by decide) ?_
    refine lv_istore_n (lv' := [(3, .int ((x.1 11 (5 * k + 0)) / 2)), (2, .ref (ad 2 k)), (0, .ref (ad 0 0)), (1, .int (nI k))]) hx hb dX1_fire_39 rfl hl (by decide) rfl (fun ls hl => ?_)
    refine lv_aload_n hx hb dX1_fire_40 rfl (lv_at hl 1 rfl) ?_
    refine m_get hx hb hts in_X2 hown hE hM 2 k (cw_2 (by omega)) (ci := 2) rfl 1 (by decide) (hts _ q140) (fun _ h9 => h9) rfl dX1_fire_41 ?_
    refine lv_iconst (v := 0) hx hb dX1_fire_44 (by decide) ?_
    refine m_aald hx hb hE hM 3 k 4 (cw_3 (by omega)) rfl 0 (by omega) (by decide) rfl rfl dX1_fire_45 ?_
    refine lv_dup hx hb dX1_fire_46 rfl ?_
    refine m_get hx hb hts in_X3 hown hE hM 4 (5 * k + 0) (cw_4 (by omega)) (ci := 3) rfl 3 (by decide) (hts _ q122) (fun _ h9 => h9) rfl dX1_fire_47 ?_
    refine lv_iload_n hx hb dX1_fire_50 rfl (lv_at hl 0 rfl) ?_
    refine lv_isub hx hb dX1_fire_51 ?_
    refine cl_put hcf hE hM hS (5 * k + 0) (by omega) 3 (by decide) q122 rfl rfl rfl ((x.1 11 (5 * k + 0)) - ((x.1 11 (5 * k + 0)) / 2)) rfl dX1_fire_52 (fun x_11 H locs ex_12 hM hS => ?_)
    refine lv_aload_n hx hb dX1_fire_55 rfl (lv_at hl 1 rfl) ?_
    refine lv_iconst (v := 0) hx hb dX1_fire_56 (by decide) ?_
    refine cc_put hcf hE hM hS k (by omega) 5 (by decide) (by decide) q148 rfl rfl rfl 0 rfl dX1_fire_57 (fun x_13 H locs ex_14 hM hS => ?_)
    refine lv_aload_n hx hb dX1_fire_60 rfl (lv_at hl 2 rfl) ?_
    refine m_get hx hb hts in_X1 hown hE hM 0 0 cw_0 (ci := 0) rfl 4 (by decide) (hts _ q183) (fun _ h9 => h9) rfl dX1_fire_61 ?_
    refine lv_iconst (v := 0) hx hb dX1_fire_64 (by decide) ?_
    refine lv_dup2_11 hx hb dX1_fire_65 rfl rfl ?_
    refine cg_ld hcf hE hM 0 (by omega) rfl dX1_fire_66 ?_
    refine lv_iload_n hx hb dX1_fire_67 rfl (lv_at hl 0 rfl) ?_
    refine lv_i2l hx hb dX1_fire_68 rfl ?_
    refine lv_ladd hx hb dX1_fire_69 ?_
    refine cg_st hcf hE hM hS 0 (by omega) rfl dX1_fire_70 (fun x_15 H locs ex_16 hM hS => ?_)
    refine lv_iload_n hx hb dX1_fire_71 rfl (lv_at hl 0 rfl) ?_
    rw [← hQ]
    exact m_iret () hx hb hr rfl hlk (by have hF : x_15 = cfiF x k := (by subst ex_16 ex_14 ex_12 ev_7; first | rfl | (unfold cfiG; rfl)); rw [← hF]; exact hM) hS (by subst ex_16 ex_14 ex_12 ev_7; first | rfl | (unfold cfiG; rfl)) (by first | decide | omega) (by first | decide | omega) dX1_fire_72
  refine lv_if_ne (tgt := 24) hx hb dX1_fire_10 (by decide) (fun c_4 => ?_) (fun c_4 => ?_)
  · refine lv_iconst (v := 0) hx hb dX1_fire_24 (by decide) ?_
    exact J_8 _ (by first | (rw [if_neg c_4]) | rfl | (simp only [c_4, if_true, if_false, ite_true, ite_false, not_false_eq_true, reduceIte]))
  · refine lv_aload_n hx hb dX1_fire_13 rfl (lv_at hl 0 rfl) ?_
    refine m_get hx hb hts in_X2 hown hE hM 2 k (cw_2 (by omega)) (ci := 2) rfl 4 (by decide) (hts _ q146) (fun _ h9 => h9) rfl dX1_fire_14 ?_
    refine lv_if_ne (tgt := 24) hx hb dX1_fire_17 (by decide) (fun c_5 => ?_) (fun c_5 => ?_)
    · refine lv_iconst (v := 0) hx hb dX1_fire_24 (by decide) ?_
      exact J_8 _ (by first | (rw [if_pos c_4, if_neg c_5]) | rfl | (simp only [c_4, c_5, if_true, if_false, ite_true, ite_false, not_false_eq_true, reduceIte]))
    · refine lv_iconst (v := 1) hx hb dX1_fire_20 (by decide) ?_
      refine lv_goto (tgt := 25) hx hb dX1_fire_21 (by decide) ?_
      exact J_8 _ (by first | (rw [if_pos c_4, if_pos c_5]) | rfl | (simp only [c_4, c_5, if_true, if_false, ite_true, ite_false, not_false_eq_true, reduceIte]))

abbrev rm_X1_fire_n1 : Room := { frames := 8, cells := 1, slots := 6, locals := 123 }
set_option maxHeartbeats 400000 in
theorem k_X1_fire_n1 (l : Launch) (g : GG) (A : Nat → Prop) (hlt : l.stackTraces = false) (ad : Nat → Nat → Nat) (Mx : MM) (x : St) (a0 : Int32) (h0 : inF a0 0 24 = 0) : vx_Met l yX1_fire (ws_ yX1_fire cX1_fire 4 (some .int)) rm_X1_fire_n1 (va_Pc [.ref (ad 0 0), .int a0] (mPre g A (cwM g ad Mx x))) pNo (mX g A "java/lang/IndexOutOfBoundsException" (cwM g ad Mx x)) 1 6 A := by
  refine m_startX RX1 rfl (by decide) (Nat.le_of_ble_eq_true rfl) ?_
  intro p e s m args below meth c hcf hr hlk hnm hE hA ht H locs hM hS ls hl
  have hx := hcf.1
  have hb := hcf.2.1
  have hml := hcf.2.2.1
  have hown := hcf.2.2.2.1
  have hts := hcf.2.2.2.2
  have hl : lv_has ls 4 [(0, .ref (ad 0 0)), (1, .int a0)] := hl
  generalize hQ : vx_MQ below pNo (mX g A "java/lang/IndexOutOfBoundsException" (cwM g ad Mx x)) args s 1 6 A = Q
  refine lv_aload_n hx hb dX1_fire_0 rfl (lv_at hl 0 rfl) ?_
  refine lv_iload_n hx hb dX1_fire_1 rfl (lv_at hl 1 rfl) ?_
  rw [← hQ]
  exact m_xend (m_xV (As := [.int a0]) (rest := []) hcf (k_X1_cellAt_no l g A hlt ad Mx x a0 h0) (cwV 1 hts (lw_V q416 q418 qs7 q35 q419) rfl rfl rfl (by decide +kernel) ⟨Nat.le_of_ble_eq_true rfl, Nat.le_of_ble_eq_true rfl⟩) hE hA hM hS 0 0 cw_0 (ci := 0) rfl rfl hl.1 rfl (Nat.le_of_ble_eq_true rfl) dX1_fire_2 ⟨Nat.le_of_ble_eq_true rfl, Nat.le_of_ble_eq_true rfl⟩) ht hlk hS (Nat.le_of_ble_eq_true rfl) (Nat.le_of_ble_eq_true rfl)

abbrev rm_X1_fire_n2 : Room := { frames := 7, cells := 1, slots := 6, locals := 102 }
set_option maxHeartbeats 400000 in
theorem k_X1_fire_n2 (l : Launch) (g : GG) (A : Nat → Prop) (hlt : l.stackTraces = false) (ad : Nat → Nat → Nat) (Mx : MM) (x : St) (k : Nat) (hk : k < 25) (hw : cfiW x k = 0) : vx_Met l yX1_fire (ws_ yX1_fire cX1_fire 4 (some .int)) rm_X1_fire_n2 (va_Pc [.ref (ad 0 0), .int (nI k)] (mPre g A (cwM g ad Mx x))) pNo (mX g A "java/lang/IllegalStateException" (cwM g ad Mx x)) 1 6 A := by
  refine m_startX RX1 rfl (by decide) (Nat.le_of_ble_eq_true rfl) ?_
  intro p e s m args below meth c hcf hr hlk hnm hE hA ht H locs hM hS ls hl
  have hx := hcf.1
  have hb := hcf.2.1
  have hml := hcf.2.2.1
  have hown := hcf.2.2.2.1
  have hts := hcf.2.2.2.2
  have hl : lv_has ls 4 [(0, .ref (ad 0 0)), (1, .int (nI k))] := hl
  generalize hQ : vx_MQ below pNo (mX g A "java/lang/IllegalStateException" (cwM g ad Mx x)) args s 1 6 A = Q
  refine lv_aload_n hx hb dX1_fire_0 rfl (lv_at hl 0 rfl) ?_
  refine lv_iload_n hx hb dX1_fire_1 rfl (lv_at hl 1 rfl) ?_
  refine m_cpr (m_rV (As := [.int (nI k)]) (rest := []) hcf (k_X1_cellAt_ok l g A ad Mx x k (by omega)) (cwV 1 hts (lw_V q416 q418 qs7 q35 q419) rfl rfl rfl (by decide +kernel) ⟨Nat.le_of_ble_eq_true rfl, Nat.le_of_ble_eq_true rfl⟩) hE hA hM hS 0 0 cw_0 (ci := 0) rfl rfl hl.1 rfl (Nat.le_of_ble_eq_true rfl) dX1_fire_2 ⟨Nat.le_of_ble_eq_true rfl, Nat.le_of_ble_eq_true rfl⟩) hS (fun H locs hM hS => ?_)
  refine lv_astore_n (lv' := [(2, .ref (ad 2 k)), (0, .ref (ad 0 0)), (1, .int (nI k))]) hx hb dX1_fire_5 rfl hl (by decide) rfl (fun ls hl => ?_)
  refine lv_aload_n hx hb dX1_fire_6 rfl (lv_at hl 0 rfl) ?_
  refine m_cpi (m_rV (As := []) (rest := []) hcf (k_X2_isLake l g A ad Mx x k (by omega)) (cwV 0 hts (lw_V q367 q368 q369 q39 q370) rfl rfl rfl (by decide +kernel) ⟨Nat.le_of_ble_eq_true rfl, Nat.le_of_ble_eq_true rfl⟩) hE hA hM hS 2 k (cw_2 (by omega)) (ci := 2) rfl rfl hl.1 rfl (Nat.le_of_ble_eq_true rfl) dX1_fire_7 ⟨Nat.le_of_ble_eq_true rfl, Nat.le_of_ble_eq_true rfl⟩) hS (fun H locs hM hS => ?_)
  have J_8 : ∀ (v_6 : Int32), ((if (clkF x k) = 0 then (if (x.1 4 k) = 0 then 1 else 0) else 0) = v_6) → W p l e rm_X1_fire_n2 s m args below meth c H locs 0 0 Q (F0 m 25 ls [.int v_6]) := by
    intro v_6 ev_7
    refine m_topI (y := 0) ((by subst ev_7; exact hw)) ?_
    rw [← hQ]
    exact m_xend (m_xS (As := [.int 0]) (rest := []) hcf (k_X1_allowed_no l g A hlt (cwM g ad Mx x)) (va_cwS 1 hts (lw_S q473 q474 q35 q475) rfl rfl rfl (by decide +kernel) ⟨Nat.le_of_ble_eq_true rfl, Nat.le_of_ble_eq_true rfl⟩) hE hA hM hS rfl hl.1 rfl (Nat.le_of_ble_eq_true rfl) dX1_fire_25 ⟨Nat.le_of_ble_eq_true rfl, Nat.le_of_ble_eq_true rfl⟩) ht hlk hS (Nat.le_of_ble_eq_true rfl) (Nat.le_of_ble_eq_true rfl)
  refine lv_if_ne (tgt := 24) hx hb dX1_fire_10 (by decide) (fun c_4 => ?_) (fun c_4 => ?_)
  · refine lv_iconst (v := 0) hx hb dX1_fire_24 (by decide) ?_
    exact J_8 _ (by first | (rw [if_neg c_4]) | rfl | (simp only [c_4, if_true, if_false, ite_true, ite_false, not_false_eq_true, reduceIte]))
  · refine lv_aload_n hx hb dX1_fire_13 rfl (lv_at hl 0 rfl) ?_
    refine m_get hx hb hts in_X2 hown hE hM 2 k (cw_2 (by omega)) (ci := 2) rfl 4 (by decide) (hts _ q146) (fun _ h9 => h9) rfl dX1_fire_14 ?_
    refine lv_if_ne (tgt := 24) hx hb dX1_fire_17 (by decide) (fun c_5 => ?_) (fun c_5 => ?_)
    · refine lv_iconst (v := 0) hx hb dX1_fire_24 (by decide) ?_
      exact J_8 _ (by first | (rw [if_pos c_4, if_neg c_5]) | rfl | (simp only [c_4, c_5, if_true, if_false, ite_true, ite_false, not_false_eq_true, reduceIte]))
    · refine lv_iconst (v := 1) hx hb dX1_fire_20 (by decide) ?_
      refine lv_goto (tgt := 25) hx hb dX1_fire_21 (by decide) ?_
      exact J_8 _ (by first | (rw [if_pos c_4, if_pos c_5]) | rfl | (simp only [c_4, c_5, if_true, if_false, ite_true, ite_false, not_false_eq_true, reduceIte]))

abbrev rm_X1_air_ok : Room := { frames := 1, cells := 0, slots := 0, locals := 22 }
set_option maxHeartbeats 400000 in
theorem k_X1_air_ok (l : Launch) (g : GG) (A : Nat → Prop) (ad : Nat → Nat → Nat) (Mx : MM) (x : St) (j : Nat) (hj : j < 2) : Met l yX1_air (ws_ yX1_air cX1_air 2 (some .long)) rm_X1_air_ok (va_Pc [.ref (ad 0 0), .int (nI j)] (mPre g A (cwM g ad Mx x))) (pQl g A (x.2 (30 + j)) (cwM g ad Mx x)) 0 0 A := by
  refine m_start RX1 rfl (by decide) (Nat.le_of_ble_eq_true rfl) ?_
  intro p e s m args below meth c hcf hr hlk hnm hE hA H locs hM hS ls hl
  have hx := hcf.1
  have hb := hcf.2.1
  have hml := hcf.2.2.1
  have hown := hcf.2.2.2.1
  have hts := hcf.2.2.2.2
  have hl : lv_has ls 2 [(0, .ref (ad 0 0)), (1, .int (nI j))] := hl
  generalize hQ : MQ below (pQl g A (x.2 (30 + j)) (cwM g ad Mx x)) args s 0 0 A = Q
  refine lv_iload_n hx hb dX1_air_0 rfl (lv_at hl 1 rfl) ?_
  refine lv_iconst (v := 0) hx hb dX1_air_1 (by decide) ?_
  refine lv_iconst (v := 1) hx hb dX1_air_2 (by decide) ?_
  refine m_cpi (m_rS (As := [.int (nI j), .int 0, .int 1]) (rest := []) hcf (k_X1_isIn l g A (cwM g ad Mx x) (nI j) 0 1) (va_cwS 3 hts (lw_S q420 q421 q35 q422) rfl rfl rfl (by decide +kernel) ⟨Nat.le_of_ble_eq_true rfl, Nat.le_of_ble_eq_true rfl⟩) hE hA hM hS rfl hl.1 rfl (Nat.le_of_ble_eq_true rfl) dX1_air_3 ⟨Nat.le_of_ble_eq_true rfl, Nat.le_of_ble_eq_true rfl⟩) hS (fun H locs hM hS => ?_)
  refine m_topI (y := 1) (inF_gas hj) ?_
  refine m_cpv (m_rS (As := [.int 1]) (rest := []) hcf (k_X1_inRange_ok l g A (cwM g ad Mx x)) (va_cwS 1 hts (lw_S q439 q440 q35 q441) rfl rfl rfl (by decide +kernel) ⟨Nat.le_of_ble_eq_true rfl, Nat.le_of_ble_eq_true rfl⟩) hE hA hM hS rfl hl.1 rfl (Nat.le_of_ble_eq_true rfl) dX1_air_6 ⟨Nat.le_of_ble_eq_true rfl, Nat.le_of_ble_eq_true rfl⟩) hS (fun H locs hM hS => ?_)
  refine lv_aload_n hx hb dX1_air_9 rfl (lv_at hl 0 rfl) ?_
  refine m_get hx hb hts in_X1 hown hE hM 0 0 cw_0 (ci := 0) rfl 4 (by decide) (hts _ q183) (fun _ h9 => h9) rfl dX1_air_10 ?_
  refine lv_iload_n hx hb dX1_air_13 rfl (lv_at hl 1 rfl) ?_
  refine cg_ld hcf hE hM j (by omega) rfl dX1_air_14 ?_
  rw [← hQ]
  exact m_lret () hx hb hr hlk hM hS (by first | rfl) (by first | decide | omega) (by first | decide | omega) dX1_air_15

abbrev rm_X1_air_no : Room := { frames := 7, cells := 1, slots := 6, locals := 102 }
set_option maxHeartbeats 400000 in
theorem k_X1_air_no (l : Launch) (g : GG) (A : Nat → Prop) (hlt : l.stackTraces = false) (ad : Nat → Nat → Nat) (Mx : MM) (x : St) (a0 : Int32) (h0 : inF a0 0 1 = 0) : vx_Met l yX1_air (ws_ yX1_air cX1_air 2 (some .long)) rm_X1_air_no (va_Pc [.ref (ad 0 0), .int a0] (mPre g A (cwM g ad Mx x))) pNo (mX g A "java/lang/IllegalArgumentException" (cwM g ad Mx x)) 1 6 A := by
  refine m_startX RX1 rfl (by decide) (Nat.le_of_ble_eq_true rfl) ?_
  intro p e s m args below meth c hcf hr hlk hnm hE hA ht H locs hM hS ls hl
  have hx := hcf.1
  have hb := hcf.2.1
  have hml := hcf.2.2.1
  have hown := hcf.2.2.2.1
  have hts := hcf.2.2.2.2
  have hl : lv_has ls 2 [(0, .ref (ad 0 0)), (1, .int a0)] := hl
  generalize hQ : vx_MQ below pNo (mX g A "java/lang/IllegalArgumentException" (cwM g ad Mx x)) args s 1 6 A = Q
  refine lv_iload_n hx hb dX1_air_0 rfl (lv_at hl 1 rfl) ?_
  refine lv_iconst (v := 0) hx hb dX1_air_1 (by decide) ?_
  refine lv_iconst (v := 1) hx hb dX1_air_2 (by decide) ?_
  refine m_cpi (m_rS (As := [.int a0, .int 0, .int 1]) (rest := []) hcf (k_X1_isIn l g A (cwM g ad Mx x) a0 0 1) (va_cwS 3 hts (lw_S q420 q421 q35 q422) rfl rfl rfl (by decide +kernel) ⟨Nat.le_of_ble_eq_true rfl, Nat.le_of_ble_eq_true rfl⟩) hE hA hM hS rfl hl.1 rfl (Nat.le_of_ble_eq_true rfl) dX1_air_3 ⟨Nat.le_of_ble_eq_true rfl, Nat.le_of_ble_eq_true rfl⟩) hS (fun H locs hM hS => ?_)
  refine m_topI (y := 0) (h0) ?_
  rw [← hQ]
  exact m_xend (m_xS (As := [.int 0]) (rest := []) hcf (k_X1_inRange_no l g A hlt (cwM g ad Mx x)) (va_cwS 1 hts (lw_S q439 q440 q35 q441) rfl rfl rfl (by decide +kernel) ⟨Nat.le_of_ble_eq_true rfl, Nat.le_of_ble_eq_true rfl⟩) hE hA hM hS rfl hl.1 rfl (Nat.le_of_ble_eq_true rfl) dX1_air_6 ⟨Nat.le_of_ble_eq_true rfl, Nat.le_of_ble_eq_true rfl⟩) ht hlk hS (Nat.le_of_ble_eq_true rfl) (Nat.le_of_ble_eq_true rfl)

abbrev rm_X1_layerOf_ok : Room := { frames := 3, cells := 0, slots := 0, locals := 66 }
set_option maxHeartbeats 400000 in
theorem k_X1_layerOf_ok (l : Launch) (g : GG) (A : Nat → Prop) (ad : Nat → Nat → Nat) (Mx : MM) (x : St) (k n : Nat) (hk : k < 25) (hn : n < 5) (w : Nat) (hw : w < 6) : Met l yX1_layerOf (ws_ yX1_layerOf cX1_layerOf 5 (some .int)) rm_X1_layerOf_ok (va_Pc [.ref (ad 0 0), .int (nI k), .int (nI n), .int (nI w)] (mPre g A (cwM g ad Mx x))) (pQi g A (claF x (5 * k + n) w) (cwM g ad Mx x)) 0 0 A := by
  refine m_start RX1 rfl (by decide) (Nat.le_of_ble_eq_true rfl) ?_
  intro p e s m args below meth c hcf hr hlk hnm hE hA H locs hM hS ls hl
  have hx := hcf.1
  have hb := hcf.2.1
  have hml := hcf.2.2.1
  have hown := hcf.2.2.2.1
  have hts := hcf.2.2.2.2
  have hl : lv_has ls 5 [(0, .ref (ad 0 0)), (1, .int (nI k)), (2, .int (nI n)), (3, .int (nI w))] := hl
  generalize hQ : MQ below (pQi g A (claF x (5 * k + n) w) (cwM g ad Mx x)) args s 0 0 A = Q
  refine lv_aload_n hx hb dX1_layerOf_0 rfl (lv_at hl 0 rfl) ?_
  refine lv_iload_n hx hb dX1_layerOf_1 rfl (lv_at hl 1 rfl) ?_
  refine lv_iload_n hx hb dX1_layerOf_2 rfl (lv_at hl 2 rfl) ?_
  refine m_cpr (m_rV (As := [.int (nI k), .int (nI n)]) (rest := []) hcf (k_X1_layerAt_ok l g A ad Mx x k n hk hn) (cwV 2 hts (lw_V q412 q414 qs6 q35 q415) rfl rfl rfl (by decide +kernel) ⟨Nat.le_of_ble_eq_true rfl, Nat.le_of_ble_eq_true rfl⟩) hE hA hM hS 0 0 cw_0 (ci := 0) rfl rfl hl.1 rfl (Nat.le_of_ble_eq_true rfl) dX1_layerOf_3 ⟨Nat.le_of_ble_eq_true rfl, Nat.le_of_ble_eq_true rfl⟩) hS (fun H locs hM hS => ?_)
  refine lv_astore (lv' := [(4, .ref (ad 4 (5 * k + n))), (0, .ref (ad 0 0)), (1, .int (nI k)), (2, .int (nI n)), (3, .int (nI w))]) hx hb dX1_layerOf_6 hl (by decide) rfl (fun ls hl => ?_)
  refine lv_iload_n hx hb dX1_layerOf_8 rfl (lv_at hl 4 rfl) ?_
  refine lv_iconst (v := 0) hx hb dX1_layerOf_9 (by decide) ?_
  refine lv_iconst (v := 5) hx hb dX1_layerOf_10 (by decide) ?_
  refine m_cpi (m_rS (As := [.int (nI w), .int 0, .int 5]) (rest := []) hcf (k_X1_isIn l g A (cwM g ad Mx x) (nI w) 0 5) (va_cwS 3 hts (lw_S q420 q421 q35 q422) rfl rfl rfl (by decide +kernel) ⟨Nat.le_of_ble_eq_true rfl, Nat.le_of_ble_eq_true rfl⟩) hE hA hM hS rfl hl.1 rfl (Nat.le_of_ble_eq_true rfl) dX1_layerOf_11 ⟨Nat.le_of_ble_eq_true rfl, Nat.le_of_ble_eq_true rfl⟩) hS (fun H locs hM hS => ?_)
  refine m_topI (y := 1) (inF_six hw) ?_
  refine m_cpv (m_rS (As := [.int 1]) (rest := []) hcf (k_X1_inRange_ok l g A (cwM g ad Mx x)) (va_cwS 1 hts (lw_S q439 q440 q35 q441) rfl rfl rfl (by decide +kernel) ⟨Nat.le_of_ble_eq_true rfl, Nat.le_of_ble_eq_true rfl⟩) hE hA hM hS rfl hl.1 rfl (Nat.le_of_ble_eq_true rfl) dX1_layerOf_14 ⟨Nat.le_of_ble_eq_true rfl, Nat.le_of_ble_eq_true rfl⟩) hS (fun H locs hM hS => ?_)
  refine lv_iload_n hx hb dX1_layerOf_17 rfl (lv_at hl 4 rfl) ?_
  obtain rfl | rfl | rfl | rfl | rfl | rfl : w = 0 ∨ w = 1 ∨ w = 2 ∨ w = 3 ∨ w = 4 ∨ w = 5 := by omega
  · refine lv_tableIn hx hb dX1_layerOf_18 (off := 34) (tgt := 52) (by decide +kernel) (by decide +kernel) rfl (by decide) ?_
    refine lv_aload hx hb dX1_layerOf_52 (lv_at hl 0 rfl) ?_
    refine m_cpi (m_rV (As := []) (rest := []) hcf (k_X3_temperature l g A ad Mx x (5 * k + n) (by omega)) (cwV 0 hts (lw_V q871 q508 q509 q40 q510) rfl rfl rfl (by decide +kernel) ⟨Nat.le_of_ble_eq_true rfl, Nat.le_of_ble_eq_true rfl⟩) hE hA hM hS 4 (5 * k + n) (cw_4 (by omega)) (ci := 3) rfl rfl hl.1 rfl (Nat.le_of_ble_eq_true rfl) dX1_layerOf_54 ⟨Nat.le_of_ble_eq_true rfl, Nat.le_of_ble_eq_true rfl⟩) hS (fun H locs hM hS => ?_)
    rw [← hQ]
    exact m_iret () hx hb hr rfl hlk hM hS (by first | rfl | (unfold claF; rfl)) (by first | decide | omega) (by first | decide | omega) dX1_layerOf_57
  · refine lv_tableIn hx hb dX1_layerOf_18 (off := 40) (tgt := 58) (by decide +kernel) (by decide +kernel) rfl (by decide) ?_
    refine lv_aload hx hb dX1_layerOf_58 (lv_at hl 0 rfl) ?_
    refine m_get hx hb hts in_X3 hown hE hM 4 (5 * k + n) (cw_4 (by omega)) (ci := 3) rfl 2 (by decide) (hts _ q120) (fun _ h9 => h9) rfl dX1_layerOf_60 ?_
    rw [← hQ]
    exact m_iret () hx hb hr rfl hlk hM hS (by first | rfl | (unfold claF; rfl)) (by first | decide | omega) (by first | decide | omega) dX1_layerOf_63
  · refine lv_tableIn hx hb dX1_layerOf_18 (off := 46) (tgt := 64) (by decide +kernel) (by decide +kernel) rfl (by decide) ?_
    refine lv_aload hx hb dX1_layerOf_64 (lv_at hl 0 rfl) ?_
    refine m_get hx hb hts in_X3 hown hE hM 4 (5 * k + n) (cw_4 (by omega)) (ci := 3) rfl 0 (by decide) (hts _ q114) (fun _ h9 => h9) rfl dX1_layerOf_66 ?_
    rw [← hQ]
    exact m_iret () hx hb hr rfl hlk hM hS (by first | rfl | (unfold claF; rfl)) (by first | decide | omega) (by first | decide | omega) dX1_layerOf_69
  · refine lv_tableIn hx hb dX1_layerOf_18 (off := 52) (tgt := 70) (by decide +kernel) (by decide +kernel) rfl (by decide) ?_
    refine lv_aload hx hb dX1_layerOf_70 (lv_at hl 0 rfl) ?_
    refine m_get hx hb hts in_X3 hown hE hM 4 (5 * k + n) (cw_4 (by omega)) (ci := 3) rfl 1 (by decide) (hts _ q117) (fun _ h9 => h9) rfl dX1_layerOf_72 ?_
    rw [← hQ]
    exact m_iret () hx hb hr rfl hlk hM hS (by first | rfl | (unfold claF; rfl)) (by first | decide | omega) (by first | decide | omega) dX1_layerOf_75
  · refine lv_tableIn hx hb dX1_layerOf_18 (off := 58) (tgt := 76) (by decide +kernel) (by decide +kernel) rfl (by decide) ?_
    refine lv_aload hx hb dX1_layerOf_76 (lv_at hl 0 rfl) ?_
    refine m_get hx hb hts in_X3 hown hE hM 4 (5 * k + n) (cw_4 (by omega)) (ci := 3) rfl 3 (by decide) (hts _ q122) (fun _ h9 => h9) rfl dX1_layerOf_78 ?_
    rw [← hQ]
    exact m_iret () hx hb hr rfl hlk hM hS (by first | rfl | (unfold claF; rfl)) (by first | decide | omega) (by first | decide | omega) dX1_layerOf_81
  · refine lv_tableOut hx hb dX1_layerOf_18 (tgt := 82) (by decide +kernel) (by decide) ?_
    refine lv_aload hx hb dX1_layerOf_82 (lv_at hl 0 rfl) ?_
    refine m_cpi (m_rV (As := []) (rest := []) hcf (k_X3_melted l g A ad Mx x (5 * k + n) (by omega)) (cwV 0 hts (lw_V q872 q528 q529 q40 q530) rfl rfl rfl (by decide +kernel) ⟨Nat.le_of_ble_eq_true rfl, Nat.le_of_ble_eq_true rfl⟩) hE hA hM hS 4 (5 * k + n) (cw_4 (by omega)) (ci := 3) rfl rfl hl.1 rfl (Nat.le_of_ble_eq_true rfl) dX1_layerOf_84 ⟨Nat.le_of_ble_eq_true rfl, Nat.le_of_ble_eq_true rfl⟩) hS (fun H locs hM hS => ?_)
    rw [← hQ]
    exact m_iret () hx hb hr rfl hlk hM hS (by first | rfl | (unfold claF; rfl)) (by first | decide | omega) (by first | decide | omega) dX1_layerOf_87

abbrev rm_X1_layerOf_n1 : Room := { frames := 9, cells := 1, slots := 6, locals := 146 }
set_option maxHeartbeats 400000 in
theorem k_X1_layerOf_n1 (l : Launch) (g : GG) (A : Nat → Prop) (hlt : l.stackTraces = false) (ad : Nat → Nat → Nat) (Mx : MM) (x : St) (a0 a1 a2 : Int32) (h0 : inF a0 0 24 = 0) : vx_Met l yX1_layerOf (ws_ yX1_layerOf cX1_layerOf 5 (some .int)) rm_X1_layerOf_n1 (va_Pc [.ref (ad 0 0), .int a0, .int a1, .int a2] (mPre g A (cwM g ad Mx x))) pNo (mX g A "java/lang/IndexOutOfBoundsException" (cwM g ad Mx x)) 1 6 A := by
  refine m_startX RX1 rfl (by decide) (Nat.le_of_ble_eq_true rfl) ?_
  intro p e s m args below meth c hcf hr hlk hnm hE hA ht H locs hM hS ls hl
  have hx := hcf.1
  have hb := hcf.2.1
  have hml := hcf.2.2.1
  have hown := hcf.2.2.2.1
  have hts := hcf.2.2.2.2
  have hl : lv_has ls 5 [(0, .ref (ad 0 0)), (1, .int a0), (2, .int a1), (3, .int a2)] := hl
  generalize hQ : vx_MQ below pNo (mX g A "java/lang/IndexOutOfBoundsException" (cwM g ad Mx x)) args s 1 6 A = Q
  refine lv_aload_n hx hb dX1_layerOf_0 rfl (lv_at hl 0 rfl) ?_
  refine lv_iload_n hx hb dX1_layerOf_1 rfl (lv_at hl 1 rfl) ?_
  refine lv_iload_n hx hb dX1_layerOf_2 rfl (lv_at hl 2 rfl) ?_
  rw [← hQ]
  exact m_xend (m_xV (As := [.int a0, .int a1]) (rest := []) hcf (k_X1_layerAt_n1 l g A hlt ad Mx x a0 a1 h0) (cwV 2 hts (lw_V q412 q414 qs6 q35 q415) rfl rfl rfl (by decide +kernel) ⟨Nat.le_of_ble_eq_true rfl, Nat.le_of_ble_eq_true rfl⟩) hE hA hM hS 0 0 cw_0 (ci := 0) rfl rfl hl.1 rfl (Nat.le_of_ble_eq_true rfl) dX1_layerOf_3 ⟨Nat.le_of_ble_eq_true rfl, Nat.le_of_ble_eq_true rfl⟩) ht hlk hS (Nat.le_of_ble_eq_true rfl) (Nat.le_of_ble_eq_true rfl)

abbrev rm_X1_layerOf_n2 : Room := { frames := 8, cells := 1, slots := 6, locals := 125 }
set_option maxHeartbeats 400000 in
theorem k_X1_layerOf_n2 (l : Launch) (g : GG) (A : Nat → Prop) (hlt : l.stackTraces = false) (ad : Nat → Nat → Nat) (Mx : MM) (x : St) (k : Nat) (hk : k < 25) (a1 a2 : Int32) (h1 : inF a1 0 4 = 0) : vx_Met l yX1_layerOf (ws_ yX1_layerOf cX1_layerOf 5 (some .int)) rm_X1_layerOf_n2 (va_Pc [.ref (ad 0 0), .int (nI k), .int a1, .int a2] (mPre g A (cwM g ad Mx x))) pNo (mX g A "java/lang/IndexOutOfBoundsException" (cwM g ad Mx x)) 1 6 A := by
  refine m_startX RX1 rfl (by decide) (Nat.le_of_ble_eq_true rfl) ?_
  intro p e s m args below meth c hcf hr hlk hnm hE hA ht H locs hM hS ls hl
  have hx := hcf.1
  have hb := hcf.2.1
  have hml := hcf.2.2.1
  have hown := hcf.2.2.2.1
  have hts := hcf.2.2.2.2
  have hl : lv_has ls 5 [(0, .ref (ad 0 0)), (1, .int (nI k)), (2, .int a1), (3, .int a2)] := hl
  generalize hQ : vx_MQ below pNo (mX g A "java/lang/IndexOutOfBoundsException" (cwM g ad Mx x)) args s 1 6 A = Q
  refine lv_aload_n hx hb dX1_layerOf_0 rfl (lv_at hl 0 rfl) ?_
  refine lv_iload_n hx hb dX1_layerOf_1 rfl (lv_at hl 1 rfl) ?_
  refine lv_iload_n hx hb dX1_layerOf_2 rfl (lv_at hl 2 rfl) ?_
  rw [← hQ]
  exact m_xend (m_xV (As := [.int (nI k), .int a1]) (rest := []) hcf (k_X1_layerAt_n2 l g A hlt ad Mx x k hk a1 h1) (cwV 2 hts (lw_V q412 q414 qs6 q35 q415) rfl rfl rfl (by decide +kernel) ⟨Nat.le_of_ble_eq_true rfl, Nat.le_of_ble_eq_true rfl⟩) hE hA hM hS 0 0 cw_0 (ci := 0) rfl rfl hl.1 rfl (Nat.le_of_ble_eq_true rfl) dX1_layerOf_3 ⟨Nat.le_of_ble_eq_true rfl, Nat.le_of_ble_eq_true rfl⟩) ht hlk hS (Nat.le_of_ble_eq_true rfl) (Nat.le_of_ble_eq_true rfl)

abbrev rm_X1_layerOf_n3 : Room := { frames := 7, cells := 1, slots := 6, locals := 102 }
set_option maxHeartbeats 400000 in
theorem k_X1_layerOf_n3 (l : Launch) (g : GG) (A : Nat → Prop) (hlt : l.stackTraces = false) (ad : Nat → Nat → Nat) (Mx : MM) (x : St) (k n : Nat) (hk : k < 25) (hn : n < 5) (a2 : Int32) (hw : inF a2 0 5 = 0) : vx_Met l yX1_layerOf (ws_ yX1_layerOf cX1_layerOf 5 (some .int)) rm_X1_layerOf_n3 (va_Pc [.ref (ad 0 0), .int (nI k), .int (nI n), .int a2] (mPre g A (cwM g ad Mx x))) pNo (mX g A "java/lang/IllegalArgumentException" (cwM g ad Mx x)) 1 6 A := by
  refine m_startX RX1 rfl (by decide) (Nat.le_of_ble_eq_true rfl) ?_
  intro p e s m args below meth c hcf hr hlk hnm hE hA ht H locs hM hS ls hl
  have hx := hcf.1
  have hb := hcf.2.1
  have hml := hcf.2.2.1
  have hown := hcf.2.2.2.1
  have hts := hcf.2.2.2.2
  have hl : lv_has ls 5 [(0, .ref (ad 0 0)), (1, .int (nI k)), (2, .int (nI n)), (3, .int a2)] := hl
  generalize hQ : vx_MQ below pNo (mX g A "java/lang/IllegalArgumentException" (cwM g ad Mx x)) args s 1 6 A = Q
  refine lv_aload_n hx hb dX1_layerOf_0 rfl (lv_at hl 0 rfl) ?_
  refine lv_iload_n hx hb dX1_layerOf_1 rfl (lv_at hl 1 rfl) ?_
  refine lv_iload_n hx hb dX1_layerOf_2 rfl (lv_at hl 2 rfl) ?_
  refine m_cpr (m_rV (As := [.int (nI k), .int (nI n)]) (rest := []) hcf (k_X1_layerAt_ok l g A ad Mx x k n hk hn) (cwV 2 hts (lw_V q412 q414 qs6 q35 q415) rfl rfl rfl (by decide +kernel) ⟨Nat.le_of_ble_eq_true rfl, Nat.le_of_ble_eq_true rfl⟩) hE hA hM hS 0 0 cw_0 (ci := 0) rfl rfl hl.1 rfl (Nat.le_of_ble_eq_true rfl) dX1_layerOf_3 ⟨Nat.le_of_ble_eq_true rfl, Nat.le_of_ble_eq_true rfl⟩) hS (fun H locs hM hS => ?_)
  refine lv_astore (lv' := [(4, .ref (ad 4 (5 * k + n))), (0, .ref (ad 0 0)), (1, .int (nI k)), (2, .int (nI n)), (3, .int a2)]) hx hb dX1_layerOf_6 hl (by decide) rfl (fun ls hl => ?_)
  refine lv_iload_n hx hb dX1_layerOf_8 rfl (lv_at hl 4 rfl) ?_
  refine lv_iconst (v := 0) hx hb dX1_layerOf_9 (by decide) ?_
  refine lv_iconst (v := 5) hx hb dX1_layerOf_10 (by decide) ?_
  refine m_cpi (m_rS (As := [.int a2, .int 0, .int 5]) (rest := []) hcf (k_X1_isIn l g A (cwM g ad Mx x) a2 0 5) (va_cwS 3 hts (lw_S q420 q421 q35 q422) rfl rfl rfl (by decide +kernel) ⟨Nat.le_of_ble_eq_true rfl, Nat.le_of_ble_eq_true rfl⟩) hE hA hM hS rfl hl.1 rfl (Nat.le_of_ble_eq_true rfl) dX1_layerOf_11 ⟨Nat.le_of_ble_eq_true rfl, Nat.le_of_ble_eq_true rfl⟩) hS (fun H locs hM hS => ?_)
  refine m_topI (y := 0) (hw) ?_
  rw [← hQ]
  exact m_xend (m_xS (As := [.int 0]) (rest := []) hcf (k_X1_inRange_no l g A hlt (cwM g ad Mx x)) (va_cwS 1 hts (lw_S q439 q440 q35 q441) rfl rfl rfl (by decide +kernel) ⟨Nat.le_of_ble_eq_true rfl, Nat.le_of_ble_eq_true rfl⟩) hE hA hM hS rfl hl.1 rfl (Nat.le_of_ble_eq_true rfl) dX1_layerOf_14 ⟨Nat.le_of_ble_eq_true rfl, Nat.le_of_ble_eq_true rfl⟩) ht hlk hS (Nat.le_of_ble_eq_true rfl) (Nat.le_of_ble_eq_true rfl)
