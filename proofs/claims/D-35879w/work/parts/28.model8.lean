/-! the reference: what is asked -/
set_option maxRecDepth 100000
def breG (x : St) (k : Nat) (y : St) (c : Nat) : Int32 := if y.1 7 c = y.1 7 k then 1 else 0
def breW (k : Nat) (y : St) (c : Nat) : St := sI y 3 c (if (if y.1 7 c = y.1 7 k then (1 : Int32) else 0) = 0 then y.1 3 c else 0)
def breL (x : St) (k : Nat) : Nat → St := it (breW k) x
theorem breL_s (x : St) (k i : Nat) : breL x k (i + 1) = breW k (breL x k i) i := it_succ _ _ _
def breN (x : St) (k : Nat) : Nat → Int32 := it (fun n c => n + (if (if (breL x k c).1 7 c = (breL x k c).1 7 k then (1 : Int32) else 0) = 0 then 0 else (breL x k c).1 3 c)) 0
theorem breN_s (x : St) (k i : Nat) : breN x k (i + 1) = breN x k i + (if (if (breL x k i).1 7 i = (breL x k i).1 7 k then (1 : Int32) else 0) = 0 then 0 else (breL x k i).1 3 i) := it_succ _ _ _
def breF (x : St) (k : Nat) : St := sL (breL (gaF x) k 25) 29 ((breL (gaF x) k 25).2 29 + (breN (gaF x) k 25).toInt64)
def lkoL (y : St) (k : Nat) : Nat → Int32 := it (fun m n => m + (if y.1 7 k = (-1) then 0 else (if y.1 7 n = y.1 7 k then 1 else 0))) 0
theorem lkoL_s (y : St) (k i : Nat) : lkoL y k (i + 1) = lkoL y k i + (if y.1 7 k = (-1) then 0 else (if y.1 7 i = y.1 7 k then 1 else 0)) := it_succ _ _ _
def thaF (x : St) (k : Nat) : Int32 := if x.1 10 (5 * k + 0) < 0 then 0 else (if x.1 10 (5 * k + 1) < 0 then 1 else (if x.1 10 (5 * k + 2) < 0 then 2 else (if x.1 10 (5 * k + 3) < 0 then 3 else (if x.1 10 (5 * k + 4) < 0 then 4 else 5))))
def celF (x : St) (k : Nat) (w : Int32) : Int32 := if 4 ≤ w then (if w = 4 then x.1 6 k else (if w = 5 then hoiF x k (nt x 13 0) else (if w = 6 then lkoL (gaF x) k 25 else thaF x k))) else (if w = 0 then x.1 2 k else (if w = 1 then x.1 3 k else (if w = 2 then x.1 4 k else x.1 5 k)))
def celS (x : St) (w : Int32) : St := if 4 ≤ w then (if w = 4 then x else (if w = 5 then x else (if w = 6 then gaF x else x))) else x
def layF (x : St) (j : Nat) (w : Int32) : Int32 := if 3 ≤ w then (if w = 3 then x.1 9 j else (if w = 4 then x.1 11 j else melF x j)) else (if w = 0 then degF x j else (if w = 1 then x.1 10 j else x.1 8 j))
def neiP (k : Nat) (a : Int32) : Nat → Int32 × Int32 := it (fun q d => (if besR (nI k) (nI d) = (-1) then q.1 else (if q.2 = a then besR (nI k) (nI d) else q.1), q.2 + (if besR (nI k) (nI d) = (-1) then 0 else 1))) ((-1), 0)
def lakI (y : St) (r : Nat) : Nat → Int32 := it (fun z c => if z = 0 then (if y.1 7 c = nI r then (if lakF y c = 0 then 0 else 1) else 0) else 1) 0
theorem lakI_s (y : St) (r i : Nat) : lakI y r (i + 1) = if lakI y r i = 0 then (if y.1 7 i = nI r then (if lakF y i = 0 then 0 else 1) else 0) else 1 := it_succ _ _ _
def lakO (y : St) : Nat → Int32 := it (fun m r => m + (if lakI y r 25 = 0 then 0 else 1)) 0
theorem lakO_s (y : St) (i : Nat) : lakO y (i + 1) = lakO y i + (if lakI y i 25 = 0 then 0 else 1) := it_succ _ _ _
def hofF (x : St) (h : Nat) (w : Int32) : Int32 := if 2 ≤ w then (if w = 2 then x.1 17 h else (if w = 3 then x.1 18 h else worF x h)) else (if w = 0 then x.1 14 h else x.1 15 h)
theorem inF_cnt {b n : Nat} (h : b < n) (hn : n < 1000) : inF (nI b) 0 (nI n - 1) = 1 := by
  have e : nI n - 1 = nI (n - 1) := pk_sub (a := n) (b := 1) (by omega)
  rw [e]
  unfold inF
  rw [if_neg (nI_pos (by omega)), if_neg]
  exact nI_nlt (by omega) (by omega)
def inlA (x : St) (w : Int32) : Nat → Int64 := it (fun s k => s + (if w = 0 then (x.1 10 k).toInt64 else (if w = 1 then (x.1 8 k + x.1 9 k).toInt64 else (x.1 11 k).toInt64))) 0
def inlB (x : St) (w : Int32) (s0 : Int64) : Nat → Int64 := it (fun s c => s + (if w = 0 then (1000 * x.1 3 c).toInt64 else (if w = 1 then (x.1 3 c).toInt64 else 0))) s0
def inlF (x : St) (w : Int32) : Int64 := inlB x w (inlA x w 125) 25
def balC (x : St) (w : Int32) : Int64 := if w = 0 then x.2 26 else (if w = 1 then x.2 27 else x.2 28)
def balE (x : St) (w : Int32) : Int64 := if w = 0 then 1000 * x.2 29 else (if w = 1 then x.2 29 else x.2 30 + x.2 31)
def balF (x : St) (w v : Int32) : Int64 := if v = 0 then inlF x w else (if v = 1 then balC x w else (if v = 2 then balE x w else balC x w - inlF x w - balE x w))
def why_breach  : Int32 := 1
abbrev rm_X4_breach_no : Room := { frames := 2, cells := 0, slots := 0, locals := 42 }
set_option maxHeartbeats 400000 in
theorem k_X4_breach_no (l : Launch) (g : GG) (A : Nat → Prop) (ad : Nat → Nat → Nat) (x : St) (a0 : Int32) (h0 : inF a0 0 24 = 0) (w : Int32) (hw : why_breach  = w) (hw0 : ¬ w = 0) : Met l yX4_breach (ws_ yX4_breach cX4_breach 6 (some .int)) rm_X4_breach_no (va_Pc [.ref (ad 30 0), .int a0] (mPre g A (mwM g ad x))) (pQi g A 0 (mwM g ad (sI x 0 0 w))) 0 0 A := by
  refine m_start RX4 rfl (by decide) (Nat.le_of_ble_eq_true rfl) ?_
  intro p e s m args below meth c hcf hr hlk hnm hE hA H locs hM hS ls hl
  have hx := hcf.1
  have hb := hcf.2.1
  have hml := hcf.2.2.1
  have hown := hcf.2.2.2.1
  have hts := hcf.2.2.2.2
  have hl : lv_has ls 6 [(0, .ref (ad 30 0)), (1, .int a0)] := hl
  generalize hQ : MQ below (pQi g A 0 (mwM g ad (sI x 0 0 w))) args s 0 0 A = Q
  refine lv_iload_n hx hb dX4_breach_0 rfl (lv_at hl 1 rfl) ?_
  refine m_cpi (m_rS (As := [.int a0]) (rest := []) hcf (k_X4_isCell l g A (mwM g ad x) a0) (va_cwS 1 hts (lw_S q1041 q1042 q41 q1043) rfl rfl rfl (by decide +kernel) ⟨Nat.le_of_ble_eq_true rfl, Nat.le_of_ble_eq_true rfl⟩) hE hA hM hS rfl hl.1 rfl (Nat.le_of_ble_eq_true rfl) dX4_breach_1 ⟨Nat.le_of_ble_eq_true rfl, Nat.le_of_ble_eq_true rfl⟩) hS (fun H locs hM hS => ?_)
  refine m_topI (y := 0) (h0) ?_
  refine lv_istore_n (lv' := [(2, .int 0), (0, .ref (ad 30 0)), (1, .int a0)]) hx hb dX4_breach_4 rfl hl (by decide) rfl (fun ls hl => ?_)
  refine lv_aload_n hx hb dX4_breach_5 rfl (lv_at hl 1 rfl) ?_
  refine lv_iload_n hx hb dX4_breach_6 rfl (lv_at hl 0 rfl) ?_
  refine lv_if_ne (tgt := 14) hx hb dX4_breach_7 (by decide) (fun c9 => absurd (by decide) c9) (fun _ => ?_)
  refine lv_iconst (v := 1) hx hb dX4_breach_10 (by decide) ?_
  refine lv_goto (tgt := 28) hx hb dX4_breach_11 (by decide) ?_
  refine m_topI (y := w) (hw) ?_
  refine m_cpi (m_rV (As := [.int w]) (rest := []) hcf (k_X4_refused l g A ad x w) (cwV 1 hts (lw_V q1047 q1049 qs16 q41 q1050) rfl rfl rfl (by decide +kernel) ⟨Nat.le_of_ble_eq_true rfl, Nat.le_of_ble_eq_true rfl⟩) hE hA hM hS 30 0 (mwM_o g ad _) (ci := 1) rfl rfl hl.1 rfl (Nat.le_of_ble_eq_true rfl) dX4_breach_28 ⟨Nat.le_of_ble_eq_true rfl, Nat.le_of_ble_eq_true rfl⟩) hS (fun H locs hM hS => ?_)
  obtain ⟨x_7, ex_8⟩ : ∃ z : St, sI x 0 0 w = z := ⟨_, rfl⟩
  rw [ex_8] at hM
  refine lv_if_eq (tgt := 36) hx hb dX4_breach_31 (by decide) (fun c9 => absurd c9 (refF_ne hw0)) (fun _ => ?_)
  refine lv_iconst (v := 0) hx hb dX4_breach_34 (by decide) ?_
  rw [← hQ]
  exact m_iret () hx hb hr rfl hlk (by have hF : x_7 = sI x 0 0 w := (by subst ex_8; first | rfl); rw [← hF]; exact hM) hS (by subst ex_8; first | rfl) (by first | decide | omega) (by first | decide | omega) dX4_breach_35


def why_breach_k (x : St) (k : Nat) : Int32 := (if (x.1 3 k) = 0 then 2 else 0 : Int32)
abbrev rm_X4_breach_nk : Room := { frames := 2, cells := 0, slots := 0, locals := 42 }
set_option maxHeartbeats 400000 in
theorem k_X4_breach_nk (l : Launch) (g : GG) (A : Nat → Prop) (ad : Nat → Nat → Nat) (x : St) (k : Nat) (hk : k < 25) (w : Int32) (hw : why_breach_k x k = w) (hw0 : ¬ w = 0) : Met l yX4_breach (ws_ yX4_breach cX4_breach 6 (some .int)) rm_X4_breach_nk (va_Pc [.ref (ad 30 0), .int (nI k)] (mPre g A (mwM g ad x))) (pQi g A 0 (mwM g ad (sI x 0 0 w))) 0 0 A := by
  refine m_start RX4 rfl (by decide) (Nat.le_of_ble_eq_true rfl) ?_
  intro p e s m args below meth c hcf hr hlk hnm hE hA H locs hM hS ls hl
  have hx := hcf.1
  have hb := hcf.2.1
  have hml := hcf.2.2.1
  have hown := hcf.2.2.2.1
  have hts := hcf.2.2.2.2
  have hl : lv_has ls 6 [(0, .ref (ad 30 0)), (1, .int (nI k))] := hl
  generalize hQ : MQ below (pQi g A 0 (mwM g ad (sI x 0 0 w))) args s 0 0 A = Q
  refine lv_iload_n hx hb dX4_breach_0 rfl (lv_at hl 1 rfl) ?_
  refine m_cpi (m_rS (As := [.int (nI k)]) (rest := []) hcf (k_X4_isCell l g A (mwM g ad x) (nI k)) (va_cwS 1 hts (lw_S q1041 q1042 q41 q1043) rfl rfl rfl (by decide +kernel) ⟨Nat.le_of_ble_eq_true rfl, Nat.le_of_ble_eq_true rfl⟩) hE hA hM hS rfl hl.1 rfl (Nat.le_of_ble_eq_true rfl) dX4_breach_1 ⟨Nat.le_of_ble_eq_true rfl, Nat.le_of_ble_eq_true rfl⟩) hS (fun H locs hM hS => ?_)
  refine m_topI (y := 1) (inF_cell hk) ?_
  refine lv_istore_n (lv' := [(2, .int 1), (0, .ref (ad 30 0)), (1, .int (nI k))]) hx hb dX4_breach_4 rfl hl (by decide) rfl (fun ls hl => ?_)
  refine lv_aload_n hx hb dX4_breach_5 rfl (lv_at hl 1 rfl) ?_
  refine lv_iload_n hx hb dX4_breach_6 rfl (lv_at hl 0 rfl) ?_
  refine lv_if_ne (tgt := 14) hx hb dX4_breach_7 (by decide) (fun _ => ?_) (fun c9 => absurd c9 (by decide))
  refine lv_aload_n hx hb dX4_breach_14 rfl (lv_at hl 1 rfl) ?_
  refine mm_get hcf hE hM 3 (by decide) q939 rfl rfl dX4_breach_15 ?_
  refine lv_iload_n hx hb dX4_breach_18 rfl (lv_at hl 2 rfl) ?_
  refine mm_ald hcf hE hM 3 rfl (by decide) k (by show _ < 25; omega) rfl dX4_breach_19 ?_
  have J_8 : ∀ (v_6 : Int32), ((if (x.1 3 k) = 0 then 2 else 0) = v_6) → W p l e rm_X4_breach_nk s m args below meth c H locs 0 0 Q (F0 m 28 ls [.int v_6, .ref (ad 30 0)]) := by
    intro v_6 ev_7
    refine m_topI (y := w) ((by subst ev_7; exact hw)) ?_
    refine m_cpi (m_rV (As := [.int w]) (rest := []) hcf (k_X4_refused l g A ad x w) (cwV 1 hts (lw_V q1047 q1049 qs16 q41 q1050) rfl rfl rfl (by decide +kernel) ⟨Nat.le_of_ble_eq_true rfl, Nat.le_of_ble_eq_true rfl⟩) hE hA hM hS 30 0 (mwM_o g ad _) (ci := 1) rfl rfl hl.1 rfl (Nat.le_of_ble_eq_true rfl) dX4_breach_28 ⟨Nat.le_of_ble_eq_true rfl, Nat.le_of_ble_eq_true rfl⟩) hS (fun H locs hM hS => ?_)
    obtain ⟨x_11, ex_12⟩ : ∃ z : St, sI x 0 0 w = z := ⟨_, rfl⟩
    rw [ex_12] at hM
    refine lv_if_eq (tgt := 36) hx hb dX4_breach_31 (by decide) (fun c9 => absurd c9 (refF_ne hw0)) (fun _ => ?_)
    refine lv_iconst (v := 0) hx hb dX4_breach_34 (by decide) ?_
    rw [← hQ]
    exact m_iret () hx hb hr rfl hlk (by have hF : x_11 = sI x 0 0 w := (by subst ex_12 ev_7; first | rfl); rw [← hF]; exact hM) hS (by subst ex_12 ev_7; first | rfl) (by first | decide | omega) (by first | decide | omega) dX4_breach_35
  refine lv_if_ne (tgt := 27) hx hb dX4_breach_20 (by decide) (fun c_5 => ?_) (fun c_5 => ?_)
  · refine lv_iconst (v := 0) hx hb dX4_breach_27 (by decide) ?_
    exact J_8 _ (by first | (rw [if_neg c_5]) | rfl | (simp only [c_5, if_true, if_false, ite_true, ite_false, not_false_eq_true, reduceIte]))
  · refine lv_iconst (v := 2) hx hb dX4_breach_23 (by decide) ?_
    refine lv_goto (tgt := 28) hx hb dX4_breach_24 (by decide) ?_
    exact J_8 _ (by first | (rw [if_pos c_5]) | rfl | (simp only [c_5, if_true, if_false, ite_true, ite_false, not_false_eq_true, reduceIte]))

abbrev rm_X4_breach_ok : Room := { frames := 2, cells := 0, slots := 0, locals := 45 }
set_option maxHeartbeats 400000 in
theorem k_X4_breach_ok (l : Launch) (g : GG) (A : Nat → Prop) (ad : Nat → Nat → Nat) (x : St) (k : Nat) (hk : k < 25) (hw : why_breach_k x k = 0) : Met l yX4_breach (ws_ yX4_breach cX4_breach 6 (some .int)) rm_X4_breach_ok (va_Pc [.ref (ad 30 0), .int (nI k)] (mPre g A (mwM g ad x))) (pQi g A (breN (gaF (sI x 0 0 0)) k 25) (mwM g ad (breF (sI x 0 0 0) k))) 0 0 A := by
  refine m_start RX4 rfl (by decide) (Nat.le_of_ble_eq_true rfl) ?_
  intro p e s m args below meth c hcf hr hlk hnm hE hA H locs hM hS ls hl
  have hx := hcf.1
  have hb := hcf.2.1
  have hml := hcf.2.2.1
  have hown := hcf.2.2.2.1
  have hts := hcf.2.2.2.2
  have hl : lv_has ls 6 [(0, .ref (ad 30 0)), (1, .int (nI k))] := hl
  generalize hQ : MQ below (pQi g A (breN (gaF (sI x 0 0 0)) k 25) (mwM g ad (breF (sI x 0 0 0) k))) args s 0 0 A = Q
  refine lv_iload_n hx hb dX4_breach_0 rfl (lv_at hl 1 rfl) ?_
  refine m_cpi (m_rS (As := [.int (nI k)]) (rest := []) hcf (k_X4_isCell l g A (mwM g ad x) (nI k)) (va_cwS 1 hts (lw_S q1041 q1042 q41 q1043) rfl rfl rfl (by decide +kernel) ⟨Nat.le_of_ble_eq_true rfl, Nat.le_of_ble_eq_true rfl⟩) hE hA hM hS rfl hl.1 rfl (Nat.le_of_ble_eq_true rfl) dX4_breach_1 ⟨Nat.le_of_ble_eq_true rfl, Nat.le_of_ble_eq_true rfl⟩) hS (fun H locs hM hS => ?_)
  refine m_topI (y := 1) (inF_cell hk) ?_
  refine lv_istore_n (lv' := [(2, .int 1), (0, .ref (ad 30 0)), (1, .int (nI k))]) hx hb dX4_breach_4 rfl hl (by decide) rfl (fun ls hl => ?_)
  refine lv_aload_n hx hb dX4_breach_5 rfl (lv_at hl 1 rfl) ?_
  refine lv_iload_n hx hb dX4_breach_6 rfl (lv_at hl 0 rfl) ?_
  refine lv_if_ne (tgt := 14) hx hb dX4_breach_7 (by decide) (fun _ => ?_) (fun c9 => absurd c9 (by decide))
  refine lv_aload_n hx hb dX4_breach_14 rfl (lv_at hl 1 rfl) ?_
  refine mm_get hcf hE hM 3 (by decide) q939 rfl rfl dX4_breach_15 ?_
  refine lv_iload_n hx hb dX4_breach_18 rfl (lv_at hl 2 rfl) ?_
  refine mm_ald hcf hE hM 3 rfl (by decide) k (by show _ < 25; omega) rfl dX4_breach_19 ?_
  have J_8 : ∀ (v_6 : Int32), ((if (x.1 3 k) = 0 then 2 else 0) = v_6) → W p l e rm_X4_breach_ok s m args below meth c H locs 0 0 Q (F0 m 28 ls [.int v_6, .ref (ad 30 0)]) := by
    intro v_6 ev_7
    refine m_topI (y := 0) ((by subst ev_7; exact hw)) ?_
    refine m_cpi (m_rV (As := [.int 0]) (rest := []) hcf (k_X4_refused l g A ad x 0) (cwV 1 hts (lw_V q1047 q1049 qs16 q41 q1050) rfl rfl rfl (by decide +kernel) ⟨Nat.le_of_ble_eq_true rfl, Nat.le_of_ble_eq_true rfl⟩) hE hA hM hS 30 0 (mwM_o g ad _) (ci := 1) rfl rfl hl.1 rfl (Nat.le_of_ble_eq_true rfl) dX4_breach_28 ⟨Nat.le_of_ble_eq_true rfl, Nat.le_of_ble_eq_true rfl⟩) hS (fun H locs hM hS => ?_)
    obtain ⟨x_11, ex_12⟩ : ∃ z : St, sI x 0 0 0 = z := ⟨_, rfl⟩
    rw [ex_12] at hM
    refine m_topI (y := 0) (by decide) ?_
    refine lv_if_eq (tgt := 36) hx hb dX4_breach_31 (by decide) (fun _ => ?_) (fun c9 => absurd (by decide) c9)
    refine lv_aload_n hx hb dX4_breach_36 rfl (lv_at hl 1 rfl) ?_
    refine m_cpv (m_rV (As := []) (rest := []) hcf (k_X4_gather l g A ad x_11 ) (cwV 0 hts (lw_V q1117 q1119 qs27 q41 q1120) rfl rfl rfl (by decide +kernel) ⟨Nat.le_of_ble_eq_true rfl, Nat.le_of_ble_eq_true rfl⟩) hE hA hM hS 30 0 (mwM_o g ad _) (ci := 1) rfl rfl hl.1 rfl (Nat.le_of_ble_eq_true rfl) dX4_breach_37 ⟨Nat.le_of_ble_eq_true rfl, Nat.le_of_ble_eq_true rfl⟩) hS (fun H locs hM hS => ?_)
    obtain ⟨x_16, ex_17⟩ : ∃ z : St, gaF x_11 = z := ⟨_, rfl⟩
    rw [ex_17] at hM
    refine lv_iconst (v := 0) hx hb dX4_breach_40 (by decide) ?_
    refine lv_istore_n (lv' := [(3, .int 0), (2, .int 1), (0, .ref (ad 30 0)), (1, .int (nI k))]) hx hb dX4_breach_41 rfl hl (by decide) rfl (fun ls hl => ?_)
    refine lv_iconst (v := 0) hx hb dX4_breach_42 (by decide) ?_
    refine lv_istore (lv' := [(4, .int 0), (3, .int 0), (2, .int 1), (0, .ref (ad 30 0)), (1, .int (nI k))]) hx hb dX4_breach_43 hl (by decide) rfl (fun ls hl => ?_)
    have L_21 : ∀ (n9 i_21 : Nat), i_21 + n9 = 25 → ∀ (H : Heap) (locs : List Loc) (ls : Array Slot), mW g.1 A (mwM g ad (breL x_16 k i_21)) H → va_S A s.heap H locs → lv_has ls 6 [(0, .ref (ad 30 0)), (1, .int (nI k)), (3, .int (breN x_16 k i_21)), (4, .int (nI i_21))] → W p l e rm_X4_breach_ok s m args below meth c H locs 0 0 Q (F0 m 45 ls []) := by
      intro n9
      induction n9 with
      | zero =>
        intro i_21 hi H locs ls hM hS hl 
        have hi : 25 = i_21 := by omega
        subst hi
        obtain ⟨x_23, ex_24⟩ : ∃ z : St, breL x_16 k 25 = z := ⟨_, rfl⟩
        rw [ex_24] at hM
        refine lv_iload hx hb dX4_breach_45 (lv_at hl 3 rfl) ?_
        refine lv_bipush (v := 25) hx hb dX4_breach_47 (by decide) ?_
        refine lv_icmp_ge (tgt := 123) hx hb dX4_breach_49 (by decide) (fun _ => ?_) (fun c9 => absurd (by decide) c9)
        refine lv_aload_n hx hb dX4_breach_123 rfl (lv_at hl 0 rfl) ?_
        refine lv_dup hx hb dX4_breach_124 rfl ?_
        refine mm_get hcf hE hM 29 (by decide) q965 rfl rfl dX4_breach_125 ?_
        refine lv_iload_n hx hb dX4_breach_128 rfl (lv_at hl 2 rfl) ?_
        refine lv_i2l hx hb dX4_breach_129 rfl ?_
        refine lv_ladd hx hb dX4_breach_130 ?_
        refine mm_putl hcf hE hM hS 29 (by decide) q965 rfl rfl rfl ((x_23.2 29) + ((breN x_16 k 25).toInt64)) rfl dX4_breach_131 (fun x_25 H locs ex_26 hM hS => ?_)
        refine lv_iload_n hx hb dX4_breach_134 rfl (lv_at hl 2 rfl) ?_
        rw [← hQ]
        exact m_iret () hx hb hr rfl hlk (by have hF : x_25 = breF (sI x 0 0 0) k := (by subst ex_26 ex_24 ex_17 ex_12 ev_7; first | rfl); rw [← hF]; exact hM) hS (by subst ex_26 ex_24 ex_17 ex_12 ev_7; first | rfl) (by first | decide | omega) (by first | decide | omega) dX4_breach_135
      | succ n9 ih =>
        intro i_21 hi H locs ls hM hS hl 
        have hlt_i_21 : i_21 < 25 := by omega
        obtain ⟨x_28, ex_29⟩ : ∃ z : St, breL x_16 k i_21 = z := ⟨_, rfl⟩
        rw [ex_29] at hM
        refine lv_iload hx hb dX4_breach_45 (lv_at hl 3 rfl) ?_
        refine lv_bipush (v := 25) hx hb dX4_breach_47 (by decide) ?_
        refine lv_icmp_ge (tgt := 123) hx hb dX4_breach_49 (by decide) (fun c9 => absurd c9 (nI_ge (a := i_21) (b := 25) (by omega) (by decide))) (fun _ => ?_)
        refine lv_aload_n hx hb dX4_breach_52 rfl (lv_at hl 0 rfl) ?_
        refine mm_get hcf hE hM 7 (by decide) q943 rfl rfl dX4_breach_53 ?_
        refine lv_iload hx hb dX4_breach_56 (lv_at hl 3 rfl) ?_
        refine mm_ald hcf hE hM 7 rfl (by decide) i_21 (by show _ < 25; omega) rfl dX4_breach_58 ?_
        refine lv_aload_n hx hb dX4_breach_59 rfl (lv_at hl 0 rfl) ?_
        refine mm_get hcf hE hM 7 (by decide) q943 rfl rfl dX4_breach_60 ?_
        refine lv_iload_n hx hb dX4_breach_63 rfl (lv_at hl 1 rfl) ?_
        refine mm_ald hcf hE hM 7 rfl (by decide) k (by show _ < 25; omega) rfl dX4_breach_64 ?_
        have J_33 : ∀ (v_31 : Int32), ((if (x_28.1 7 i_21) = (x_28.1 7 k) then 1 else 0) = v_31) → W p l e rm_X4_breach_ok s m args below meth c H locs 0 0 Q (F0 m 73 ls [.int v_31]) := by
          intro v_31 ev_32
          refine lv_istore (lv' := [(5, .int v_31), (0, .ref (ad 30 0)), (1, .int (nI k)), (3, .int (breN x_16 k i_21)), (4, .int (nI i_21))]) hx hb dX4_breach_73 hl (by decide) rfl (fun ls hl => ?_)
          refine lv_iload_n hx hb dX4_breach_75 rfl (lv_at hl 3 rfl) ?_
          refine lv_iload hx hb dX4_breach_76 (lv_at hl 0 rfl) ?_
          have J_38 : ∀ (v_36 : Int32), ((if v_31 = 0 then 0 else (x_28.1 3 i_21)) = v_36) → W p l e rm_X4_breach_ok s m args below meth c H locs 0 0 Q (F0 m 92 ls [.int v_36, .int (breN x_16 k i_21)]) := by
            intro v_36 ev_37
            refine lv_iadd hx hb dX4_breach_92 ?_
            refine lv_istore_n (lv' := [(3, .int ((breN x_16 k i_21) + v_36)), (5, .int v_31), (0, .ref (ad 30 0)), (1, .int (nI k)), (4, .int (nI i_21))]) hx hb dX4_breach_93 rfl hl (by decide) rfl (fun ls hl => ?_)
            refine lv_aload_n hx hb dX4_breach_94 rfl (lv_at hl 2 rfl) ?_
            refine mm_get hcf hE hM 3 (by decide) q939 rfl rfl dX4_breach_95 ?_
            refine lv_iload hx hb dX4_breach_98 (lv_at hl 4 rfl) ?_
            refine lv_iload hx hb dX4_breach_100 (lv_at hl 1 rfl) ?_
            have J_43 : ∀ (v_41 : Int32), ((if v_31 = 0 then (x_28.1 3 i_21) else 0) = v_41) → W p l e rm_X4_breach_ok s m args below meth c H locs 0 0 Q (F0 m 116 ls [.int v_41, .int (nI i_21), .ref (ad 31 3)]) := by
              intro v_41 ev_42
              refine mm_ast hcf hE hM hS 3 rfl (by decide) i_21 (by show _ < 25; omega) rfl dX4_breach_116 (fun x_44 H locs ex_45 hM hS => ?_)
              refine lv_iinc (v := nI (i_21 + 1)) (lv' := [(4, .int (nI (i_21 + 1))), (3, .int ((breN x_16 k i_21) + v_36)), (5, .int v_31), (0, .ref (ad 30 0)), (1, .int (nI k))]) hx hb dX4_breach_117 hl (k := 4) rfl (nI_add i_21 1) (by decide) rfl (fun ls hl => ?_)
              refine lv_goto (tgt := 45) hx hb dX4_breach_120 (by decide) ?_
              exact ih (i_21 + 1) (by omega) H locs ls (by have hF : x_44 = breL x_16 k (i_21 + 1) := (by subst ex_45 ev_42 ev_37 ev_32 ex_29; rfl); rw [← hF]; exact hM) hS (lv_sub hl [3, 4, 1, 0] (by subst ex_45 ev_42 ev_37 ev_32 ex_29; rfl))
            refine lv_if_eq (tgt := 109) hx hb dX4_breach_102 (by decide) (fun c_40 => ?_) (fun c_40 => ?_)
            · refine lv_aload_n hx hb dX4_breach_109 rfl (lv_at hl 2 rfl) ?_
              refine mm_get hcf hE hM 3 (by decide) q939 rfl rfl dX4_breach_110 ?_
              refine lv_iload hx hb dX4_breach_113 (lv_at hl 4 rfl) ?_
              refine mm_ald hcf hE hM 3 rfl (by decide) i_21 (by show _ < 25; omega) rfl dX4_breach_115 ?_
              exact J_43 _ (by first | (rw [if_pos c_40]) | rfl | (simp only [c_40, if_true, if_false, ite_true, ite_false, not_false_eq_true, reduceIte]))
            · refine lv_iconst (v := 0) hx hb dX4_breach_105 (by decide) ?_
              refine lv_goto (tgt := 116) hx hb dX4_breach_106 (by decide) ?_
              exact J_43 _ (by first | (rw [if_neg c_40]) | rfl | (simp only [c_40, if_true, if_false, ite_true, ite_false, not_false_eq_true, reduceIte]))
          refine lv_if_eq (tgt := 91) hx hb dX4_breach_78 (by decide) (fun c_35 => ?_) (fun c_35 => ?_)
          · refine lv_iconst (v := 0) hx hb dX4_breach_91 (by decide) ?_
            exact J_38 _ (by first | (rw [if_pos c_35]) | rfl | (simp only [c_35, if_true, if_false, ite_true, ite_false, not_false_eq_true, reduceIte]))
          · refine lv_aload_n hx hb dX4_breach_81 rfl (lv_at hl 1 rfl) ?_
            refine mm_get hcf hE hM 3 (by decide) q939 rfl rfl dX4_breach_82 ?_
            refine lv_iload hx hb dX4_breach_85 (lv_at hl 4 rfl) ?_
            refine mm_ald hcf hE hM 3 rfl (by decide) i_21 (by show _ < 25; omega) rfl dX4_breach_87 ?_
            refine lv_goto (tgt := 92) hx hb dX4_breach_88 (by decide) ?_
            exact J_38 _ (by first | (rw [if_neg c_35]) | rfl | (simp only [c_35, if_true, if_false, ite_true, ite_false, not_false_eq_true, reduceIte]))
        refine lv_icmp_ne (tgt := 72) hx hb dX4_breach_65 (by decide) (fun c_30 => ?_) (fun c_30 => ?_)
        · refine lv_iconst (v := 0) hx hb dX4_breach_72 (by decide) ?_
          exact J_33 _ (by first | (rw [if_neg c_30]) | rfl | (simp only [c_30, if_true, if_false, ite_true, ite_false, not_false_eq_true, reduceIte]))
        · refine lv_iconst (v := 1) hx hb dX4_breach_68 (by decide) ?_
          refine lv_goto (tgt := 73) hx hb dX4_breach_69 (by decide) ?_
          exact J_33 _ (by first | (rw [if_pos c_30]) | rfl | (simp only [c_30, if_true, if_false, ite_true, ite_false, not_false_eq_true, reduceIte]))
    exact L_21 (25) 0 (by omega) H locs ls hM hS (lv_sub hl [3, 4, 1, 0] rfl)
  refine lv_if_ne (tgt := 27) hx hb dX4_breach_20 (by decide) (fun c_5 => ?_) (fun c_5 => ?_)
  · refine lv_iconst (v := 0) hx hb dX4_breach_27 (by decide) ?_
    exact J_8 _ (by first | (rw [if_neg c_5]) | rfl | (simp only [c_5, if_true, if_false, ite_true, ite_false, not_false_eq_true, reduceIte]))
  · refine lv_iconst (v := 2) hx hb dX4_breach_23 (by decide) ?_
    refine lv_goto (tgt := 28) hx hb dX4_breach_24 (by decide) ?_
    exact J_8 _ (by first | (rw [if_pos c_5]) | rfl | (simp only [c_5, if_true, if_false, ite_true, ite_false, not_false_eq_true, reduceIte]))


abbrev rm_X4_lakeOf : Room := { frames := 2, cells := 0, slots := 0, locals := 45 }
set_option maxHeartbeats 400000 in
theorem k_X4_lakeOf (l : Launch) (g : GG) (A : Nat → Prop) (ad : Nat → Nat → Nat) (x : St) (k : Nat) (hk : k < 25) : Met l yX4_lakeOf (ws_ yX4_lakeOf cX4_lakeOf 4 (some .int)) rm_X4_lakeOf (va_Pc [.ref (ad 30 0), .int (nI k)] (mPre g A (mwM g ad x))) (pQi g A (lkoL (gaF x) k 25) (mwM g ad (gaF x))) 0 0 A := by
  refine m_start RX4 rfl (by decide) (Nat.le_of_ble_eq_true rfl) ?_
  intro p e s m args below meth c hcf hr hlk hnm hE hA H locs hM hS ls hl
  have hx := hcf.1
  have hb := hcf.2.1
  have hml := hcf.2.2.1
  have hown := hcf.2.2.2.1
  have hts := hcf.2.2.2.2
  have hl : lv_has ls 4 [(0, .ref (ad 30 0)), (1, .int (nI k))] := hl
  generalize hQ : MQ below (pQi g A (lkoL (gaF x) k 25) (mwM g ad (gaF x))) args s 0 0 A = Q
  refine lv_aload_n hx hb dX4_lakeOf_0 rfl (lv_at hl 0 rfl) ?_
  refine m_cpv (m_rV (As := []) (rest := []) hcf (k_X4_gather l g A ad x ) (cwV 0 hts (lw_V q1117 q1119 qs27 q41 q1120) rfl rfl rfl (by decide +kernel) ⟨Nat.le_of_ble_eq_true rfl, Nat.le_of_ble_eq_true rfl⟩) hE hA hM hS 30 0 (mwM_o g ad _) (ci := 1) rfl rfl hl.1 rfl (Nat.le_of_ble_eq_true rfl) dX4_lakeOf_1 ⟨Nat.le_of_ble_eq_true rfl, Nat.le_of_ble_eq_true rfl⟩) hS (fun H locs hM hS => ?_)
  obtain ⟨x_3, ex_4⟩ : ∃ z : St, gaF x = z := ⟨_, rfl⟩
  rw [ex_4] at hM
  refine lv_iconst (v := 0) hx hb dX4_lakeOf_4 (by decide) ?_
  refine lv_istore_n (lv' := [(2, .int 0), (0, .ref (ad 30 0)), (1, .int (nI k))]) hx hb dX4_lakeOf_5 rfl hl (by decide) rfl (fun ls hl => ?_)
  refine lv_iconst (v := 0) hx hb dX4_lakeOf_6 (by decide) ?_
  refine lv_istore_n (lv' := [(3, .int 0), (2, .int 0), (0, .ref (ad 30 0)), (1, .int (nI k))]) hx hb dX4_lakeOf_7 rfl hl (by decide) rfl (fun ls hl => ?_)
  have L_8 : ∀ (n9 i_8 : Nat), i_8 + n9 = 25 → ∀ (H : Heap) (locs : List Loc) (ls : Array Slot), mW g.1 A (mwM g ad x_3) H → va_S A s.heap H locs → lv_has ls 4 [(0, .ref (ad 30 0)), (1, .int (nI k)), (2, .int (lkoL x_3 k i_8)), (3, .int (nI i_8))] → W p l e rm_X4_lakeOf s m args below meth c H locs 0 0 Q (F0 m 8 ls []) := by
    intro n9
    induction n9 with
    | zero =>
      intro i_8 hi H locs ls hM hS hl 
      have hi : 25 = i_8 := by omega
      subst hi
      refine lv_iload_n hx hb dX4_lakeOf_8 rfl (lv_at hl 3 rfl) ?_
      refine lv_bipush (v := 25) hx hb dX4_lakeOf_9 (by decide) ?_
      refine lv_icmp_ge (tgt := 53) hx hb dX4_lakeOf_11 (by decide) (fun _ => ?_) (fun c9 => absurd (by decide) c9)
      refine lv_iload_n hx hb dX4_lakeOf_53 rfl (lv_at hl 2 rfl) ?_
      rw [← hQ]
      exact m_iret () hx hb hr rfl hlk (by have hF : x_3 = gaF x := (by subst ex_4; first | rfl); rw [← hF]; exact hM) hS (by subst ex_4; first | rfl) (by first | decide | omega) (by first | decide | omega) dX4_lakeOf_54
    | succ n9 ih =>
      intro i_8 hi H locs ls hM hS hl 
      have hlt_i_8 : i_8 < 25 := by omega
      refine lv_iload_n hx hb dX4_lakeOf_8 rfl (lv_at hl 3 rfl) ?_
      refine lv_bipush (v := 25) hx hb dX4_lakeOf_9 (by decide) ?_
      refine lv_icmp_ge (tgt := 53) hx hb dX4_lakeOf_11 (by decide) (fun c9 => absurd c9 (nI_ge (a := i_8) (b := 25) (by omega) (by decide))) (fun _ => ?_)
      refine lv_iload_n hx hb dX4_lakeOf_14 rfl (lv_at hl 2 rfl) ?_
      refine lv_aload_n hx hb dX4_lakeOf_15 rfl (lv_at hl 0 rfl) ?_
      refine mm_get hcf hE hM 7 (by decide) q943 rfl rfl dX4_lakeOf_16 ?_
      refine lv_iload_n hx hb dX4_lakeOf_19 rfl (lv_at hl 1 rfl) ?_
      refine mm_ald hcf hE hM 7 rfl (by decide) k (by show _ < 25; omega) rfl dX4_lakeOf_20 ?_
      refine lv_iconst (v := (-1)) hx hb dX4_lakeOf_21 (by decide) ?_
      have J_15 : ∀ (v_13 : Int32), ((if (x_3.1 7 k) = (-1) then 0 else (if (x_3.1 7 i_8) = (x_3.1 7 k) then 1 else 0)) = v_13) → W p l e rm_X4_lakeOf s m args below meth c H locs 0 0 Q (F0 m 45 ls [.int v_13, .int (lkoL x_3 k i_8)]) := by
        intro v_13 ev_14
        refine lv_iadd hx hb dX4_lakeOf_45 ?_
        refine lv_istore_n (lv' := [(2, .int ((lkoL x_3 k i_8) + v_13)), (0, .ref (ad 30 0)), (1, .int (nI k)), (3, .int (nI i_8))]) hx hb dX4_lakeOf_46 rfl hl (by decide) rfl (fun ls hl => ?_)
        refine lv_iinc (v := nI (i_8 + 1)) (lv' := [(3, .int (nI (i_8 + 1))), (2, .int ((lkoL x_3 k i_8) + v_13)), (0, .ref (ad 30 0)), (1, .int (nI k))]) hx hb dX4_lakeOf_47 hl (k := 3) rfl (nI_add i_8 1) (by decide) rfl (fun ls hl => ?_)
        refine lv_goto (tgt := 8) hx hb dX4_lakeOf_50 (by decide) ?_
        exact ih (i_8 + 1) (by omega) H locs ls hM hS (lv_sub hl [2, 3, 1, 0] (by subst ev_14; rfl))
      refine lv_icmp_eq (tgt := 44) hx hb dX4_lakeOf_22 (by decide) (fun c_11 => ?_) (fun c_11 => ?_)
      · refine lv_iconst (v := 0) hx hb dX4_lakeOf_44 (by decide) ?_
        exact J_15 _ (by first | (rw [if_pos c_11]) | rfl | (simp only [c_11, if_true, if_false, ite_true, ite_false, not_false_eq_true, reduceIte]))
      · refine lv_aload_n hx hb dX4_lakeOf_25 rfl (lv_at hl 0 rfl) ?_
        refine mm_get hcf hE hM 7 (by decide) q943 rfl rfl dX4_lakeOf_26 ?_
        refine lv_iload_n hx hb dX4_lakeOf_29 rfl (lv_at hl 3 rfl) ?_
        refine mm_ald hcf hE hM 7 rfl (by decide) i_8 (by show _ < 25; omega) rfl dX4_lakeOf_30 ?_
        refine lv_aload_n hx hb dX4_lakeOf_31 rfl (lv_at hl 0 rfl) ?_
        refine mm_get hcf hE hM 7 (by decide) q943 rfl rfl dX4_lakeOf_32 ?_
        refine lv_iload_n hx hb dX4_lakeOf_35 rfl (lv_at hl 1 rfl) ?_
        refine mm_ald hcf hE hM 7 rfl (by decide) k (by show _ < 25; omega) rfl dX4_lakeOf_36 ?_
        refine lv_icmp_ne (tgt := 44) hx hb dX4_lakeOf_37 (by decide) (fun c_12 => ?_) (fun c_12 => ?_)
        · refine lv_iconst (v := 0) hx hb dX4_lakeOf_44 (by decide) ?_
          exact J_15 _ (by first | (rw [if_neg c_11, if_neg c_12]) | rfl | (simp only [c_11, c_12, if_true, if_false, ite_true, ite_false, not_false_eq_true, reduceIte]))
        · refine lv_iconst (v := 1) hx hb dX4_lakeOf_40 (by decide) ?_
          refine lv_goto (tgt := 45) hx hb dX4_lakeOf_41 (by decide) ?_
          exact J_15 _ (by first | (rw [if_neg c_11, if_pos c_12]) | rfl | (simp only [c_11, c_12, if_true, if_false, ite_true, ite_false, not_false_eq_true, reduceIte]))
  exact L_8 (25) 0 (by omega) H locs ls hM hS (lv_sub hl [2, 3, 1, 0] rfl)

abbrev rm_X4_thawed : Room := { frames := 0, cells := 0, slots := 0, locals := 0 }
set_option maxHeartbeats 400000 in
theorem k_X4_thawed (l : Launch) (g : GG) (A : Nat → Prop) (ad : Nat → Nat → Nat) (x : St) (k : Nat) (hk : k < 25) : Met l yX4_thawed (ws_ yX4_thawed cX4_thawed 3 (some .int)) rm_X4_thawed (va_Pc [.ref (ad 30 0), .int (nI k)] (mPre g A (mwM g ad x))) (pQi g A (thaF x k) (mwM g ad x)) 0 0 A := by
  refine m_start RX4 rfl (by decide) (Nat.le_of_ble_eq_true rfl) ?_
  intro p e s m args below meth c hcf hr hlk hnm hE hA H locs hM hS ls hl
  have hx := hcf.1
  have hb := hcf.2.1
  have hml := hcf.2.2.1
  have hown := hcf.2.2.2.1
  have hts := hcf.2.2.2.2
  have hl : lv_has ls 3 [(0, .ref (ad 30 0)), (1, .int (nI k))] := hl
  generalize hQ : MQ below (pQi g A (thaF x k) (mwM g ad x)) args s 0 0 A = Q
  refine lv_iconst (v := 0) hx hb dX4_thawed_0 (by decide) ?_
  refine lv_istore_n (lv' := [(2, .int 0), (0, .ref (ad 30 0)), (1, .int (nI k))]) hx hb dX4_thawed_1 rfl hl (by decide) rfl (fun ls hl => ?_)
  refine lv_iload_n hx hb dX4_thawed_2 rfl (lv_at hl 0 rfl) ?_
  refine lv_iconst (v := 5) hx hb dX4_thawed_3 (by decide) ?_
  refine lv_icmp_ge (tgt := 26) hx hb dX4_thawed_4 (by decide) (fun c9 => absurd c9 (by decide)) (fun _ => ?_)
  refine lv_aload_n hx hb dX4_thawed_7 rfl (lv_at hl 1 rfl) ?_
  refine mm_get hcf hE hM 10 (by decide) q946 rfl rfl dX4_thawed_8 ?_
  refine lv_iconst (v := 5) hx hb dX4_thawed_11 (by decide) ?_
  refine lv_iload_n hx hb dX4_thawed_12 rfl (lv_at hl 2 rfl) ?_
  refine lv_imul hx hb dX4_thawed_13 ?_
  refine m_topI (y := nI (5 * k)) (pk_mul 5 k) ?_
  refine lv_iload_n hx hb dX4_thawed_14 rfl (lv_at hl 0 rfl) ?_
  refine lv_iadd hx hb dX4_thawed_15 ?_
  refine m_topI (y := nI ((5 * k) + 0)) (nI_add (5 * k) 0) ?_
  refine mm_ald hcf hE hM 10 rfl (by decide) ((5 * k) + 0) (by show _ < 125; omega) rfl dX4_thawed_16 ?_
  have J_15 : ∀ (ls : Array Slot) (v_12 : Int32), lv_has ls 3 [(0, .ref (ad 30 0)), (1, .int (nI k)), (2, .int v_12)] → ((if (x.1 10 ((5 * k) + 0)) < 0 then 0 else (if (x.1 10 ((5 * k) + 1)) < 0 then 1 else (if (x.1 10 ((5 * k) + 2)) < 0 then 2 else (if (x.1 10 ((5 * k) + 3)) < 0 then 3 else (if (x.1 10 ((5 * k) + 4)) < 0 then 4 else 5))))) = v_12) → W p l e rm_X4_thawed s m args below meth c H locs 0 0 Q (F0 m 26 ls []) := by
    intro ls v_12 hl ev_13
    refine lv_iload_n hx hb dX4_thawed_26 rfl (lv_at hl 2 rfl) ?_
    rw [← hQ]
    exact m_iret () hx hb hr rfl hlk hM hS (by subst ev_13; first | rfl | (unfold thaF; rfl)) (by first | decide | omega) (by first | decide | omega) dX4_thawed_27
  refine lv_if_lt (tgt := 26) hx hb dX4_thawed_17 (by decide) (fun c_2 => ?_) (fun c_2 => ?_)
  · skip
    exact J_15 ls _ (lv_sub hl [1, 2, 0] rfl) (by first | (rw [if_pos c_2]) | rfl | (simp only [c_2, if_true, if_false, ite_true, ite_false, not_false_eq_true, reduceIte]))
  · refine lv_iinc (v := 1) (lv' := [(2, .int 1), (0, .ref (ad 30 0)), (1, .int (nI k))]) hx hb dX4_thawed_20 hl (k := 0) rfl ((by decide)) (by decide) rfl (fun ls hl => ?_)
    refine lv_goto (tgt := 2) hx hb dX4_thawed_23 (by decide) ?_
    refine lv_iload_n hx hb dX4_thawed_2 rfl (lv_at hl 0 rfl) ?_
    refine lv_iconst (v := 5) hx hb dX4_thawed_3 (by decide) ?_
    refine lv_icmp_ge (tgt := 26) hx hb dX4_thawed_4 (by decide) (fun c9 => absurd c9 (by decide)) (fun _ => ?_)
    refine lv_aload_n hx hb dX4_thawed_7 rfl (lv_at hl 1 rfl) ?_
    refine mm_get hcf hE hM 10 (by decide) q946 rfl rfl dX4_thawed_8 ?_
    refine lv_iconst (v := 5) hx hb dX4_thawed_11 (by decide) ?_
    refine lv_iload_n hx hb dX4_thawed_12 rfl (lv_at hl 2 rfl) ?_
    refine lv_imul hx hb dX4_thawed_13 ?_
    refine m_topI (y := nI (5 * k)) (pk_mul 5 k) ?_
    refine lv_iload_n hx hb dX4_thawed_14 rfl (lv_at hl 0 rfl) ?_
    refine lv_iadd hx hb dX4_thawed_15 ?_
    refine m_topI (y := nI ((5 * k) + 1)) (nI_add (5 * k) 1) ?_
    refine mm_ald hcf hE hM 10 rfl (by decide) ((5 * k) + 1) (by show _ < 125; omega) rfl dX4_thawed_16 ?_
    refine lv_if_lt (tgt := 26) hx hb dX4_thawed_17 (by decide) (fun c_4 => ?_) (fun c_4 => ?_)
    · skip
      exact J_15 ls _ (lv_sub hl [1, 2, 0] rfl) (by first | (rw [if_neg c_2, if_pos c_4]) | rfl | (simp only [c_2, c_4, if_true, if_false, ite_true, ite_false, not_false_eq_true, reduceIte]))
    · refine lv_iinc (v := 2) (lv' := [(2, .int 2), (0, .ref (ad 30 0)), (1, .int (nI k))]) hx hb dX4_thawed_20 hl (k := 0) rfl ((by decide)) (by decide) rfl (fun ls hl => ?_)
      refine lv_goto (tgt := 2) hx hb dX4_thawed_23 (by decide) ?_
      refine lv_iload_n hx hb dX4_thawed_2 rfl (lv_at hl 0 rfl) ?_
      refine lv_iconst (v := 5) hx hb dX4_thawed_3 (by decide) ?_
      refine lv_icmp_ge (tgt := 26) hx hb dX4_thawed_4 (by decide) (fun c9 => absurd c9 (by decide)) (fun _ => ?_)
      refine lv_aload_n hx hb dX4_thawed_7 rfl (lv_at hl 1 rfl) ?_
      refine mm_get hcf hE hM 10 (by decide) q946 rfl rfl dX4_thawed_8 ?_
      refine lv_iconst (v := 5) hx hb dX4_thawed_11 (by decide) ?_
      refine lv_iload_n hx hb dX4_thawed_12 rfl (lv_at hl 2 rfl) ?_
      refine lv_imul hx hb dX4_thawed_13 ?_
      refine m_topI (y := nI (5 * k)) (pk_mul 5 k) ?_
      refine lv_iload_n hx hb dX4_thawed_14 rfl (lv_at hl 0 rfl) ?_
      refine lv_iadd hx hb dX4_thawed_15 ?_
      refine m_topI (y := nI ((5 * k) + 2)) (nI_add (5 * k) 2) ?_
      refine mm_ald hcf hE hM 10 rfl (by decide) ((5 * k) + 2) (by show _ < 125; omega) rfl dX4_thawed_16 ?_
      refine lv_if_lt (tgt := 26) hx hb dX4_thawed_17 (by decide) (fun c_6 => ?_) (fun c_6 => ?_)
      · skip
        exact J_15 ls _ (lv_sub hl [1, 2, 0] rfl) (by first | (rw [if_neg c_2, if_neg c_4, if_pos c_6]) | rfl | (simp only [c_2, c_4, c_6, if_true, if_false, ite_true, ite_false, not_false_eq_true, reduceIte]))
      · refine lv_iinc (v := 3) (lv' := [(2, .int 3), (0, .ref (ad 30 0)), (1, .int (nI k))]) hx hb dX4_thawed_20 hl (k := 0) rfl ((by decide)) (by decide) rfl (fun ls hl => ?_)
        refine lv_goto (tgt := 2) hx hb dX4_thawed_23 (by decide) ?_
        refine lv_iload_n hx hb dX4_thawed_2 rfl (lv_at hl 0 rfl) ?_
        refine lv_iconst (v := 5) hx hb dX4_thawed_3 (by decide) ?_
        refine lv_icmp_ge (tgt := 26) hx hb dX4_thawed_4 (by decide) (fun c9 => absurd c9 (by decide)) (fun _ => ?_)
        refine lv_aload_n hx hb dX4_thawed_7 rfl (lv_at hl 1 rfl) ?_
        refine mm_get hcf hE hM 10 (by decide) q946 rfl rfl dX4_thawed_8 ?_
        refine lv_iconst (v := 5) hx hb dX4_thawed_11 (by decide) ?_
        refine lv_iload_n hx hb dX4_thawed_12 rfl (lv_at hl 2 rfl) ?_
        refine lv_imul hx hb dX4_thawed_13 ?_
        refine m_topI (y := nI (5 * k)) (pk_mul 5 k) ?_
        refine lv_iload_n hx hb dX4_thawed_14 rfl (lv_at hl 0 rfl) ?_
        refine lv_iadd hx hb dX4_thawed_15 ?_
        refine m_topI (y := nI ((5 * k) + 3)) (nI_add (5 * k) 3) ?_
        refine mm_ald hcf hE hM 10 rfl (by decide) ((5 * k) + 3) (by show _ < 125; omega) rfl dX4_thawed_16 ?_
        refine lv_if_lt (tgt := 26) hx hb dX4_thawed_17 (by decide) (fun c_8 => ?_) (fun c_8 => ?_)
        · skip
          exact J_15 ls _ (lv_sub hl [1, 2, 0] rfl) (by first | (rw [if_neg c_2, if_neg c_4, if_neg c_6, if_pos c_8]) | rfl | (simp only [c_2, c_4, c_6, c_8, if_true, if_false, ite_true, ite_false, not_false_eq_true, reduceIte]))
        · refine lv_iinc (v := 4) (lv' := [(2, .int 4), (0, .ref (ad 30 0)), (1, .int (nI k))]) hx hb dX4_thawed_20 hl (k := 0) rfl ((by decide)) (by decide) rfl (fun ls hl => ?_)
          refine lv_goto (tgt := 2) hx hb dX4_thawed_23 (by decide) ?_
          refine lv_iload_n hx hb dX4_thawed_2 rfl (lv_at hl 0 rfl) ?_
          refine lv_iconst (v := 5) hx hb dX4_thawed_3 (by decide) ?_
          refine lv_icmp_ge (tgt := 26) hx hb dX4_thawed_4 (by decide) (fun c9 => absurd c9 (by decide)) (fun _ => ?_)
          refine lv_aload_n hx hb dX4_thawed_7 rfl (lv_at hl 1 rfl) ?_
          refine mm_get hcf hE hM 10 (by decide) q946 rfl rfl dX4_thawed_8 ?_
          refine lv_iconst (v := 5) hx hb dX4_thawed_11 (by decide) ?_
          refine lv_iload_n hx hb dX4_thawed_12 rfl (lv_at hl 2 rfl) ?_
          refine lv_imul hx hb dX4_thawed_13 ?_
          refine m_topI (y := nI (5 * k)) (pk_mul 5 k) ?_
          refine lv_iload_n hx hb dX4_thawed_14 rfl (lv_at hl 0 rfl) ?_
          refine lv_iadd hx hb dX4_thawed_15 ?_
          refine m_topI (y := nI ((5 * k) + 4)) (nI_add (5 * k) 4) ?_
          refine mm_ald hcf hE hM 10 rfl (by decide) ((5 * k) + 4) (by show _ < 125; omega) rfl dX4_thawed_16 ?_
          refine lv_if_lt (tgt := 26) hx hb dX4_thawed_17 (by decide) (fun c_10 => ?_) (fun c_10 => ?_)
          · skip
            exact J_15 ls _ (lv_sub hl [1, 2, 0] rfl) (by first | (rw [if_neg c_2, if_neg c_4, if_neg c_6, if_neg c_8, if_pos c_10]) | rfl | (simp only [c_2, c_4, c_6, c_8, c_10, if_true, if_false, ite_true, ite_false, not_false_eq_true, reduceIte]))
          · refine lv_iinc (v := 5) (lv' := [(2, .int 5), (0, .ref (ad 30 0)), (1, .int (nI k))]) hx hb dX4_thawed_20 hl (k := 0) rfl ((by decide)) (by decide) rfl (fun ls hl => ?_)
            refine lv_goto (tgt := 2) hx hb dX4_thawed_23 (by decide) ?_
            refine lv_iload_n hx hb dX4_thawed_2 rfl (lv_at hl 0 rfl) ?_
            refine lv_iconst (v := 5) hx hb dX4_thawed_3 (by decide) ?_
            refine lv_icmp_ge (tgt := 26) hx hb dX4_thawed_4 (by decide) (fun _ => ?_) (fun c9 => absurd (by decide) c9)
            exact J_15 ls _ (lv_sub hl [1, 2, 0] rfl) (by first | (rw [if_neg c_2, if_neg c_4, if_neg c_6, if_neg c_8, if_neg c_10]) | rfl | (simp only [c_2, c_4, c_6, c_8, c_10, if_true, if_false, ite_true, ite_false, not_false_eq_true, reduceIte]))

def why_cellOf (a0 a1 : Int32) : Int32 := (if (inF a0 0 24) = 0 then 1 else (if (inF a1 0 7) = 0 then 2 else 0) : Int32)
abbrev rm_X4_cellOf_no : Room := { frames := 2, cells := 0, slots := 0, locals := 42 }
set_option maxHeartbeats 400000 in
theorem k_X4_cellOf_no (l : Launch) (g : GG) (A : Nat → Prop) (ad : Nat → Nat → Nat) (x : St) (a0 a1 : Int32) (w : Int32) (hw : why_cellOf a0 a1 = w) (hw0 : ¬ w = 0) : Met l yX4_cellOf (ws_ yX4_cellOf cX4_cellOf 3 (some .int)) rm_X4_cellOf_no (va_Pc [.ref (ad 30 0), .int a0, .int a1] (mPre g A (mwM g ad x))) (pQi g A 0 (mwM g ad (sI x 0 0 w))) 0 0 A := by
  refine m_start RX4 rfl (by decide) (Nat.le_of_ble_eq_true rfl) ?_
  intro p e s m args below meth c hcf hr hlk hnm hE hA H locs hM hS ls hl
  have hx := hcf.1
  have hb := hcf.2.1
  have hml := hcf.2.2.1
  have hown := hcf.2.2.2.1
  have hts := hcf.2.2.2.2
  have hl : lv_has ls 3 [(0, .ref (ad 30 0)), (1, .int a0), (2, .int a1)] := hl
  generalize hQ : MQ below (pQi g A 0 (mwM g ad (sI x 0 0 w))) args s 0 0 A = Q
  refine lv_aload_n hx hb dX4_cellOf_0 rfl (lv_at hl 0 rfl) ?_
  refine lv_iload_n hx hb dX4_cellOf_1 rfl (lv_at hl 1 rfl) ?_
  refine m_cpi (m_rS (As := [.int a0]) (rest := [.ref (ad 30 0)]) hcf (k_X4_isCell l g A (mwM g ad x) a0) (va_cwS 1 hts (lw_S q1041 q1042 q41 q1043) rfl rfl rfl (by decide +kernel) ⟨Nat.le_of_ble_eq_true rfl, Nat.le_of_ble_eq_true rfl⟩) hE hA hM hS rfl hl.1 rfl (Nat.le_of_ble_eq_true rfl) dX4_cellOf_2 ⟨Nat.le_of_ble_eq_true rfl, Nat.le_of_ble_eq_true rfl⟩) hS (fun H locs hM hS => ?_)
  have J_11 : ∀ (H : Heap) (locs : List Loc) (v_9 : Int32), mW g.1 A (mwM g ad x) H → va_S A s.heap H locs → ((if (inF a0 0 24) = 0 then 1 else (if (inF a1 0 7) = 0 then 2 else 0)) = v_9) → W p l e rm_X4_cellOf_no s m args below meth c H locs 0 0 Q (F0 m 27 ls [.int v_9, .ref (ad 30 0)]) := by
    intro H locs v_9 hM hS ev_10
    refine m_topI (y := w) ((by subst ev_10; exact hw)) ?_
    refine m_cpi (m_rV (As := [.int w]) (rest := []) hcf (k_X4_refused l g A ad x w) (cwV 1 hts (lw_V q1047 q1049 qs16 q41 q1050) rfl rfl rfl (by decide +kernel) ⟨Nat.le_of_ble_eq_true rfl, Nat.le_of_ble_eq_true rfl⟩) hE hA hM hS 30 0 (mwM_o g ad _) (ci := 1) rfl rfl hl.1 rfl (Nat.le_of_ble_eq_true rfl) dX4_cellOf_27 ⟨Nat.le_of_ble_eq_true rfl, Nat.le_of_ble_eq_true rfl⟩) hS (fun H locs hM hS => ?_)
    obtain ⟨x_14, ex_15⟩ : ∃ z : St, sI x 0 0 w = z := ⟨_, rfl⟩
    rw [ex_15] at hM
    refine lv_if_eq (tgt := 35) hx hb dX4_cellOf_30 (by decide) (fun c9 => absurd c9 (refF_ne hw0)) (fun _ => ?_)
    refine lv_iconst (v := 0) hx hb dX4_cellOf_33 (by decide) ?_
    rw [← hQ]
    exact m_iret () hx hb hr rfl hlk (by have hF : x_14 = sI x 0 0 w := (by subst ex_15 ev_10; first | rfl); rw [← hF]; exact hM) hS (by subst ex_15 ev_10; first | rfl) (by first | decide | omega) (by first | decide | omega) dX4_cellOf_34
  refine lv_if_ne (tgt := 12) hx hb dX4_cellOf_5 (by decide) (fun c_4 => ?_) (fun c_4 => ?_)
  · refine lv_iload_n hx hb dX4_cellOf_12 rfl (lv_at hl 2 rfl) ?_
    refine lv_iconst (v := 0) hx hb dX4_cellOf_13 (by decide) ?_
    refine lv_bipush (v := 7) hx hb dX4_cellOf_14 (by decide) ?_
    refine m_cpi (m_rS (As := [.int a1, .int 0, .int 7]) (rest := [.ref (ad 30 0)]) hcf (k_X4_within l g A (mwM g ad x) a1 0 7) (va_cwS 3 hts (lw_S q1044 q1045 q41 q1046) rfl rfl rfl (by decide +kernel) ⟨Nat.le_of_ble_eq_true rfl, Nat.le_of_ble_eq_true rfl⟩) hE hA hM hS rfl hl.1 rfl (Nat.le_of_ble_eq_true rfl) dX4_cellOf_16 ⟨Nat.le_of_ble_eq_true rfl, Nat.le_of_ble_eq_true rfl⟩) hS (fun H locs hM hS => ?_)
    refine lv_if_ne (tgt := 26) hx hb dX4_cellOf_19 (by decide) (fun c_8 => ?_) (fun c_8 => ?_)
    · refine lv_iconst (v := 0) hx hb dX4_cellOf_26 (by decide) ?_
      exact J_11 H locs _ hM hS (by first | (rw [if_neg c_4, if_neg c_8]) | rfl | (simp only [c_4, c_8, if_true, if_false, ite_true, ite_false, not_false_eq_true, reduceIte]))
    · refine lv_iconst (v := 2) hx hb dX4_cellOf_22 (by decide) ?_
      refine lv_goto (tgt := 27) hx hb dX4_cellOf_23 (by decide) ?_
      exact J_11 H locs _ hM hS (by first | (rw [if_neg c_4, if_pos c_8]) | rfl | (simp only [c_4, c_8, if_true, if_false, ite_true, ite_false, not_false_eq_true, reduceIte]))
  · refine lv_iconst (v := 1) hx hb dX4_cellOf_8 (by decide) ?_
    refine lv_goto (tgt := 27) hx hb dX4_cellOf_9 (by decide) ?_
    exact J_11 H locs _ hM hS (by first | (rw [if_pos c_4]) | rfl | (simp only [c_4, if_true, if_false, ite_true, ite_false, not_false_eq_true, reduceIte]))


def why_cellOf_k (a1 : Int32) : Int32 := (if (inF a1 0 7) = 0 then 2 else 0 : Int32)
abbrev rm_X4_cellOf_ok : Room := { frames := 3, cells := 0, slots := 0, locals := 68 }
set_option maxHeartbeats 400000 in
theorem k_X4_cellOf_ok (l : Launch) (g : GG) (A : Nat → Prop) (ad : Nat → Nat → Nat) (x : St) (hok : okM x) (k : Nat) (hk : k < 25) (a1 : Int32) (hw : why_cellOf_k a1 = 0) : Met l yX4_cellOf (ws_ yX4_cellOf cX4_cellOf 3 (some .int)) rm_X4_cellOf_ok (va_Pc [.ref (ad 30 0), .int (nI k), .int a1] (mPre g A (mwM g ad x))) (pQi g A (celF (sI x 0 0 0) k a1) (mwM g ad (celS (sI x 0 0 0) a1))) 0 0 A := by
  refine m_start RX4 rfl (by decide) (Nat.le_of_ble_eq_true rfl) ?_
  intro p e s m args below meth c hcf hr hlk hnm hE hA H locs hM hS ls hl
  have hx := hcf.1
  have hb := hcf.2.1
  have hml := hcf.2.2.1
  have hown := hcf.2.2.2.1
  have hts := hcf.2.2.2.2
  have hl : lv_has ls 3 [(0, .ref (ad 30 0)), (1, .int (nI k)), (2, .int a1)] := hl
  generalize hQ : MQ below (pQi g A (celF (sI x 0 0 0) k a1) (mwM g ad (celS (sI x 0 0 0) a1))) args s 0 0 A = Q
  refine lv_aload_n hx hb dX4_cellOf_0 rfl (lv_at hl 0 rfl) ?_
  refine lv_iload_n hx hb dX4_cellOf_1 rfl (lv_at hl 1 rfl) ?_
  refine m_cpi (m_rS (As := [.int (nI k)]) (rest := [.ref (ad 30 0)]) hcf (k_X4_isCell l g A (mwM g ad x) (nI k)) (va_cwS 1 hts (lw_S q1041 q1042 q41 q1043) rfl rfl rfl (by decide +kernel) ⟨Nat.le_of_ble_eq_true rfl, Nat.le_of_ble_eq_true rfl⟩) hE hA hM hS rfl hl.1 rfl (Nat.le_of_ble_eq_true rfl) dX4_cellOf_2 ⟨Nat.le_of_ble_eq_true rfl, Nat.le_of_ble_eq_true rfl⟩) hS (fun H locs hM hS => ?_)
  refine m_topI (y := 1) (inF_cell hk) ?_
  refine lv_if_ne (tgt := 12) hx hb dX4_cellOf_5 (by decide) (fun _ => ?_) (fun c9 => absurd c9 (by decide))
  refine lv_iload_n hx hb dX4_cellOf_12 rfl (lv_at hl 2 rfl) ?_
  refine lv_iconst (v := 0) hx hb dX4_cellOf_13 (by decide) ?_
  refine lv_bipush (v := 7) hx hb dX4_cellOf_14 (by decide) ?_
  refine m_cpi (m_rS (As := [.int a1, .int 0, .int 7]) (rest := [.ref (ad 30 0)]) hcf (k_X4_within l g A (mwM g ad x) a1 0 7) (va_cwS 3 hts (lw_S q1044 q1045 q41 q1046) rfl rfl rfl (by decide +kernel) ⟨Nat.le_of_ble_eq_true rfl, Nat.le_of_ble_eq_true rfl⟩) hE hA hM hS rfl hl.1 rfl (Nat.le_of_ble_eq_true rfl) dX4_cellOf_16 ⟨Nat.le_of_ble_eq_true rfl, Nat.le_of_ble_eq_true rfl⟩) hS (fun H locs hM hS => ?_)
  have J_10 : ∀ (v_8 : Int32), ((if (inF a1 0 7) = 0 then 2 else 0) = v_8) → W p l e rm_X4_cellOf_ok s m args below meth c H locs 0 0 Q (F0 m 27 ls [.int v_8, .ref (ad 30 0)]) := by
    intro v_8 ev_9
    refine m_topI (y := 0) ((by subst ev_9; exact hw)) ?_
    refine m_cpi (m_rV (As := [.int 0]) (rest := []) hcf (k_X4_refused l g A ad x 0) (cwV 1 hts (lw_V q1047 q1049 qs16 q41 q1050) rfl rfl rfl (by decide +kernel) ⟨Nat.le_of_ble_eq_true rfl, Nat.le_of_ble_eq_true rfl⟩) hE hA hM hS 30 0 (mwM_o g ad _) (ci := 1) rfl rfl hl.1 rfl (Nat.le_of_ble_eq_true rfl) dX4_cellOf_27 ⟨Nat.le_of_ble_eq_true rfl, Nat.le_of_ble_eq_true rfl⟩) hS (fun H locs hM hS => ?_)
    obtain ⟨x_13, ex_14⟩ : ∃ z : St, sI x 0 0 0 = z := ⟨_, rfl⟩
    rw [ex_14] at hM
    refine m_topI (y := 0) (by decide) ?_
    refine lv_if_eq (tgt := 35) hx hb dX4_cellOf_30 (by decide) (fun _ => ?_) (fun c9 => absurd (by decide) c9)
    refine lv_iload_n hx hb dX4_cellOf_35 rfl (lv_at hl 2 rfl) ?_
    refine lv_iconst (v := 4) hx hb dX4_cellOf_36 (by decide) ?_
    refine lv_icmp_ge (tgt := 88) hx hb dX4_cellOf_37 (by decide) (fun c_16 => ?_) (fun c_16 => ?_)
    · refine lv_iload_n hx hb dX4_cellOf_88 rfl (lv_at hl 2 rfl) ?_
      refine lv_iconst (v := 4) hx hb dX4_cellOf_89 (by decide) ?_
      have J_35 : ∀ (H : Heap) (locs : List Loc) (x_31 : St) (v_33 : Int32), mW g.1 A (mwM g ad x_31) H → va_S A s.heap H locs → ((if a1 = 4 then x_13 else (if a1 = 5 then x_13 else (if a1 = 6 then (gaF x_13) else x_13))) = x_31) → ((if a1 = 4 then (x_13.1 6 k) else (if a1 = 5 then (hoiF x_13 k (nt x_13 13 0)) else (if a1 = 6 then (lkoL (gaF x_13) k 25) else (thaF x_13 k)))) = v_33) → W p l e rm_X4_cellOf_ok s m args below meth c H locs 0 0 Q (F0 m 134 ls [.int v_33]) := by
        intro H locs x_31 v_33 hM hS ex_32 ev_34
        rw [← hQ]
        exact m_iret () hx hb hr rfl hlk (by have hF : x_31 = celS (sI x 0 0 0) a1 := (by subst ev_34 ex_32 ex_14 ev_9; first | (unfold celF; rw [if_pos c_16] <;> rfl) | (unfold celS; rw [if_pos c_16] <;> rfl) | (unfold celF celS; rw [if_pos c_16] <;> rfl) | rfl | (unfold celF; rfl) | (unfold celS; rfl) | (unfold celF celS; rfl) | (unfold celF; simp only [c_16, if_true, if_false, ite_true, ite_false, not_false_eq_true, reduceIte] <;> rfl) | (unfold celS; simp only [c_16, if_true, if_false, ite_true, ite_false, not_false_eq_true, reduceIte] <;> rfl) | (rw [if_pos c_16] <;> rfl)); rw [← hF]; exact hM) hS (by subst ev_34 ex_32 ex_14 ev_9; first | (unfold celF; rw [if_pos c_16] <;> rfl) | (unfold celS; rw [if_pos c_16] <;> rfl) | (unfold celF celS; rw [if_pos c_16] <;> rfl) | rfl | (unfold celF; rfl) | (unfold celS; rfl) | (unfold celF celS; rfl) | (unfold celF; simp only [c_16, if_true, if_false, ite_true, ite_false, not_false_eq_true, reduceIte] <;> rfl) | (unfold celS; simp only [c_16, if_true, if_false, ite_true, ite_false, not_false_eq_true, reduceIte] <;> rfl) | (rw [if_pos c_16] <;> rfl)) (by first | decide | omega) (by first | decide | omega) dX4_cellOf_134
      refine lv_icmp_ne (tgt := 102) hx hb dX4_cellOf_90 (by decide) (fun c_17 => ?_) (fun c_17 => ?_)
      · refine lv_iload_n hx hb dX4_cellOf_102 rfl (lv_at hl 2 rfl) ?_
        refine lv_iconst (v := 5) hx hb dX4_cellOf_103 (by decide) ?_
        refine lv_icmp_ne (tgt := 115) hx hb dX4_cellOf_104 (by decide) (fun c_18 => ?_) (fun c_18 => ?_)
        · refine lv_iload_n hx hb dX4_cellOf_115 rfl (lv_at hl 2 rfl) ?_
          refine lv_bipush (v := 6) hx hb dX4_cellOf_116 (by decide) ?_
          refine lv_icmp_ne (tgt := 129) hx hb dX4_cellOf_118 (by decide) (fun c_19 => ?_) (fun c_19 => ?_)
          · refine lv_aload_n hx hb dX4_cellOf_129 rfl (lv_at hl 0 rfl) ?_
            refine lv_iload_n hx hb dX4_cellOf_130 rfl (lv_at hl 1 rfl) ?_
            refine m_cpi (m_rV (As := [.int (nI k)]) (rest := []) hcf (k_X4_thawed l g A ad x_13 k (by omega)) (cwV 1 hts (lw_V q1157 q1159 qs32 q41 q1160) rfl rfl rfl (by decide +kernel) ⟨Nat.le_of_ble_eq_true rfl, Nat.le_of_ble_eq_true rfl⟩) hE hA hM hS 30 0 (mwM_o g ad _) (ci := 1) rfl rfl hl.1 rfl (Nat.le_of_ble_eq_true rfl) dX4_cellOf_131 ⟨Nat.le_of_ble_eq_true rfl, Nat.le_of_ble_eq_true rfl⟩) hS (fun H locs hM hS => ?_)
            exact J_35 H locs _ _ hM hS (by first | (rw [if_neg c_17, if_neg c_18, if_neg c_19]) | rfl | (simp only [c_17, c_18, c_19, if_true, if_false, ite_true, ite_false, not_false_eq_true, reduceIte])) (by first | (rw [if_neg c_17, if_neg c_18, if_neg c_19]) | rfl | (simp only [c_17, c_18, c_19, if_true, if_false, ite_true, ite_false, not_false_eq_true, reduceIte]))
          · refine lv_aload_n hx hb dX4_cellOf_121 rfl (lv_at hl 0 rfl) ?_
            refine lv_iload_n hx hb dX4_cellOf_122 rfl (lv_at hl 1 rfl) ?_
            refine m_cpi (m_rV (As := [.int (nI k)]) (rest := []) hcf (k_X4_lakeOf l g A ad x_13 k (by omega)) (cwV 1 hts (lw_V q1153 q1155 qs31 q41 q1156) rfl rfl rfl (by decide +kernel) ⟨Nat.le_of_ble_eq_true rfl, Nat.le_of_ble_eq_true rfl⟩) hE hA hM hS 30 0 (mwM_o g ad _) (ci := 1) rfl rfl hl.1 rfl (Nat.le_of_ble_eq_true rfl) dX4_cellOf_123 ⟨Nat.le_of_ble_eq_true rfl, Nat.le_of_ble_eq_true rfl⟩) hS (fun H locs hM hS => ?_)
            obtain ⟨x_25, ex_26⟩ : ∃ z : St, gaF x_13 = z := ⟨_, rfl⟩
            rw [ex_26] at hM
            refine lv_goto (tgt := 134) hx hb dX4_cellOf_126 (by decide) ?_
            exact J_35 H locs _ _ hM hS (by subst ex_26; first | (rw [if_neg c_17, if_neg c_18, if_pos c_19]) | rfl | (simp only [c_17, c_18, c_19, if_true, if_false, ite_true, ite_false, not_false_eq_true, reduceIte])) (by subst ex_26; first | (rw [if_neg c_17, if_neg c_18, if_pos c_19]) | rfl | (simp only [c_17, c_18, c_19, if_true, if_false, ite_true, ite_false, not_false_eq_true, reduceIte]))
        · refine lv_aload_n hx hb dX4_cellOf_107 rfl (lv_at hl 0 rfl) ?_
          refine lv_iload_n hx hb dX4_cellOf_108 rfl (lv_at hl 1 rfl) ?_
          refine m_cpi (m_rV (As := [.int (nI k)]) (rest := []) hcf (k_X4_houseIn l g A ad x_13 (by subst ex_14 ev_9; exact ok_r0 hok 0) k) (cwV 1 hts (lw_V q1125 q1127 qs28 q41 q1128) rfl rfl rfl (by decide +kernel) ⟨Nat.le_of_ble_eq_true rfl, Nat.le_of_ble_eq_true rfl⟩) hE hA hM hS 30 0 (mwM_o g ad _) (ci := 1) rfl rfl hl.1 rfl (Nat.le_of_ble_eq_true rfl) dX4_cellOf_109 ⟨Nat.le_of_ble_eq_true rfl, Nat.le_of_ble_eq_true rfl⟩) hS (fun H locs hM hS => ?_)
          refine lv_goto (tgt := 134) hx hb dX4_cellOf_112 (by decide) ?_
          exact J_35 H locs _ _ hM hS (by first | (rw [if_neg c_17, if_pos c_18]) | rfl | (simp only [c_17, c_18, if_true, if_false, ite_true, ite_false, not_false_eq_true, reduceIte])) (by first | (rw [if_neg c_17, if_pos c_18]) | rfl | (simp only [c_17, c_18, if_true, if_false, ite_true, ite_false, not_false_eq_true, reduceIte]))
      · refine lv_aload_n hx hb dX4_cellOf_93 rfl (lv_at hl 0 rfl) ?_
        refine mm_get hcf hE hM 6 (by decide) q942 rfl rfl dX4_cellOf_94 ?_
        refine lv_iload_n hx hb dX4_cellOf_97 rfl (lv_at hl 1 rfl) ?_
        refine mm_ald hcf hE hM 6 rfl (by decide) k (by show _ < 25; omega) rfl dX4_cellOf_98 ?_
        refine lv_goto (tgt := 134) hx hb dX4_cellOf_99 (by decide) ?_
        exact J_35 H locs _ _ hM hS (by first | (rw [if_pos c_17]) | rfl | (simp only [c_17, if_true, if_false, ite_true, ite_false, not_false_eq_true, reduceIte])) (by first | (rw [if_pos c_17]) | rfl | (simp only [c_17, if_true, if_false, ite_true, ite_false, not_false_eq_true, reduceIte]))
    · refine lv_iload_n hx hb dX4_cellOf_40 rfl (lv_at hl 2 rfl) ?_
      have J_41 : ∀ (v_39 : Int32), ((if a1 = 0 then (x_13.1 2 k) else (if a1 = 1 then (x_13.1 3 k) else (if a1 = 2 then (x_13.1 4 k) else (x_13.1 5 k)))) = v_39) → W p l e rm_X4_cellOf_ok s m args below meth c H locs 0 0 Q (F0 m 87 ls [.int v_39]) := by
        intro v_39 ev_40
        rw [← hQ]
        exact m_iret () hx hb hr rfl hlk (by have hF : x_13 = celS (sI x 0 0 0) a1 := (by subst ev_40 ex_14 ev_9; first | (unfold celF; rw [if_neg c_16] <;> rfl) | (unfold celS; rw [if_neg c_16] <;> rfl) | (unfold celF celS; rw [if_neg c_16] <;> rfl) | rfl | (unfold celF; rfl) | (unfold celS; rfl) | (unfold celF celS; rfl) | (unfold celF; simp only [c_16, if_true, if_false, ite_true, ite_false, not_false_eq_true, reduceIte] <;> rfl) | (unfold celS; simp only [c_16, if_true, if_false, ite_true, ite_false, not_false_eq_true, reduceIte] <;> rfl) | (rw [if_neg c_16] <;> rfl)); rw [← hF]; exact hM) hS (by subst ev_40 ex_14 ev_9; first | (unfold celF; rw [if_neg c_16] <;> rfl) | (unfold celS; rw [if_neg c_16] <;> rfl) | (unfold celF celS; rw [if_neg c_16] <;> rfl) | rfl | (unfold celF; rfl) | (unfold celS; rfl) | (unfold celF celS; rfl) | (unfold celF; simp only [c_16, if_true, if_false, ite_true, ite_false, not_false_eq_true, reduceIte] <;> rfl) | (unfold celS; simp only [c_16, if_true, if_false, ite_true, ite_false, not_false_eq_true, reduceIte] <;> rfl) | (rw [if_neg c_16] <;> rfl)) (by first | decide | omega) (by first | decide | omega) dX4_cellOf_87
      refine lv_if_ne (tgt := 53) hx hb dX4_cellOf_41 (by decide) (fun c_36 => ?_) (fun c_36 => ?_)
      · refine lv_iload_n hx hb dX4_cellOf_53 rfl (lv_at hl 2 rfl) ?_
        refine lv_iconst (v := 1) hx hb dX4_cellOf_54 (by decide) ?_
        refine lv_icmp_ne (tgt := 67) hx hb dX4_cellOf_55 (by decide) (fun c_37 => ?_) (fun c_37 => ?_)
        · refine lv_iload_n hx hb dX4_cellOf_67 rfl (lv_at hl 2 rfl) ?_
          refine lv_iconst (v := 2) hx hb dX4_cellOf_68 (by decide) ?_
          refine lv_icmp_ne (tgt := 81) hx hb dX4_cellOf_69 (by decide) (fun c_38 => ?_) (fun c_38 => ?_)
          · refine lv_aload_n hx hb dX4_cellOf_81 rfl (lv_at hl 0 rfl) ?_
            refine mm_get hcf hE hM 5 (by decide) q941 rfl rfl dX4_cellOf_82 ?_
            refine lv_iload_n hx hb dX4_cellOf_85 rfl (lv_at hl 1 rfl) ?_
            refine mm_ald hcf hE hM 5 rfl (by decide) k (by show _ < 25; omega) rfl dX4_cellOf_86 ?_
            exact J_41 _ (by first | (rw [if_neg c_36, if_neg c_37, if_neg c_38]) | rfl | (simp only [c_36, c_37, c_38, if_true, if_false, ite_true, ite_false, not_false_eq_true, reduceIte]))
          · refine lv_aload_n hx hb dX4_cellOf_72 rfl (lv_at hl 0 rfl) ?_
            refine mm_get hcf hE hM 4 (by decide) q940 rfl rfl dX4_cellOf_73 ?_
            refine lv_iload_n hx hb dX4_cellOf_76 rfl (lv_at hl 1 rfl) ?_
            refine mm_ald hcf hE hM 4 rfl (by decide) k (by show _ < 25; omega) rfl dX4_cellOf_77 ?_
            refine lv_goto (tgt := 87) hx hb dX4_cellOf_78 (by decide) ?_
            exact J_41 _ (by first | (rw [if_neg c_36, if_neg c_37, if_pos c_38]) | rfl | (simp only [c_36, c_37, c_38, if_true, if_false, ite_true, ite_false, not_false_eq_true, reduceIte]))
        · refine lv_aload_n hx hb dX4_cellOf_58 rfl (lv_at hl 0 rfl) ?_
          refine mm_get hcf hE hM 3 (by decide) q939 rfl rfl dX4_cellOf_59 ?_
          refine lv_iload_n hx hb dX4_cellOf_62 rfl (lv_at hl 1 rfl) ?_
          refine mm_ald hcf hE hM 3 rfl (by decide) k (by show _ < 25; omega) rfl dX4_cellOf_63 ?_
          refine lv_goto (tgt := 87) hx hb dX4_cellOf_64 (by decide) ?_
          exact J_41 _ (by first | (rw [if_neg c_36, if_pos c_37]) | rfl | (simp only [c_36, c_37, if_true, if_false, ite_true, ite_false, not_false_eq_true, reduceIte]))
      · refine lv_aload_n hx hb dX4_cellOf_44 rfl (lv_at hl 0 rfl) ?_
        refine mm_get hcf hE hM 2 (by decide) q938 rfl rfl dX4_cellOf_45 ?_
        refine lv_iload_n hx hb dX4_cellOf_48 rfl (lv_at hl 1 rfl) ?_
        refine mm_ald hcf hE hM 2 rfl (by decide) k (by show _ < 25; omega) rfl dX4_cellOf_49 ?_
        refine lv_goto (tgt := 87) hx hb dX4_cellOf_50 (by decide) ?_
        exact J_41 _ (by first | (rw [if_pos c_36]) | rfl | (simp only [c_36, if_true, if_false, ite_true, ite_false, not_false_eq_true, reduceIte]))
  refine lv_if_ne (tgt := 26) hx hb dX4_cellOf_19 (by decide) (fun c_7 => ?_) (fun c_7 => ?_)
  · refine lv_iconst (v := 0) hx hb dX4_cellOf_26 (by decide) ?_
    exact J_10 _ (by first | (rw [if_neg c_7]) | rfl | (simp only [c_7, if_true, if_false, ite_true, ite_false, not_false_eq_true, reduceIte]))
  · refine lv_iconst (v := 2) hx hb dX4_cellOf_22 (by decide) ?_
    refine lv_goto (tgt := 27) hx hb dX4_cellOf_23 (by decide) ?_
    exact J_10 _ (by first | (rw [if_pos c_7]) | rfl | (simp only [c_7, if_true, if_false, ite_true, ite_false, not_false_eq_true, reduceIte]))


def why_layerOf (a0 a1 a2 : Int32) : Int32 := (if (if (inF a0 0 24) = 0 then 0 else (if (inF a1 0 4) = 0 then 0 else 1) : Int32) = 0 then 1 else (if (inF a2 0 5) = 0 then 2 else 0) : Int32)
abbrev rm_X4_layerOf_no : Room := { frames := 2, cells := 0, slots := 0, locals := 42 }
set_option maxHeartbeats 400000 in
theorem k_X4_layerOf_no (l : Launch) (g : GG) (A : Nat → Prop) (ad : Nat → Nat → Nat) (x : St) (a0 a1 a2 : Int32) (w : Int32) (hw : why_layerOf a0 a1 a2 = w) (hw0 : ¬ w = 0) : Met l yX4_layerOf (ws_ yX4_layerOf cX4_layerOf 6 (some .int)) rm_X4_layerOf_no (va_Pc [.ref (ad 30 0), .int a0, .int a1, .int a2] (mPre g A (mwM g ad x))) (pQi g A 0 (mwM g ad (sI x 0 0 w))) 0 0 A := by
  refine m_start RX4 rfl (by decide) (Nat.le_of_ble_eq_true rfl) ?_
  intro p e s m args below meth c hcf hr hlk hnm hE hA H locs hM hS ls hl
  have hx := hcf.1
  have hb := hcf.2.1
  have hml := hcf.2.2.1
  have hown := hcf.2.2.2.1
  have hts := hcf.2.2.2.2
  have hl : lv_has ls 6 [(0, .ref (ad 30 0)), (1, .int a0), (2, .int a1), (3, .int a2)] := hl
  generalize hQ : MQ below (pQi g A 0 (mwM g ad (sI x 0 0 w))) args s 0 0 A = Q
  refine lv_iload_n hx hb dX4_layerOf_0 rfl (lv_at hl 1 rfl) ?_
  refine m_cpi (m_rS (As := [.int a0]) (rest := []) hcf (k_X4_isCell l g A (mwM g ad x) a0) (va_cwS 1 hts (lw_S q1041 q1042 q41 q1043) rfl rfl rfl (by decide +kernel) ⟨Nat.le_of_ble_eq_true rfl, Nat.le_of_ble_eq_true rfl⟩) hE hA hM hS rfl hl.1 rfl (Nat.le_of_ble_eq_true rfl) dX4_layerOf_1 ⟨Nat.le_of_ble_eq_true rfl, Nat.le_of_ble_eq_true rfl⟩) hS (fun H locs hM hS => ?_)
  have J_11 : ∀ (H : Heap) (locs : List Loc) (v_9 : Int32), mW g.1 A (mwM g ad x) H → va_S A s.heap H locs → ((if (inF a0 0 24) = 0 then 0 else (if (inF a1 0 4) = 0 then 0 else 1)) = v_9) → W p l e rm_X4_layerOf_no s m args below meth c H locs 0 0 Q (F0 m 21 ls [.int v_9]) := by
    intro H locs v_9 hM hS ev_10
    refine lv_istore (lv' := [(4, .int v_9), (0, .ref (ad 30 0)), (1, .int a0), (2, .int a1), (3, .int a2)]) hx hb dX4_layerOf_21 hl (by decide) rfl (fun ls hl => ?_)
    refine lv_aload_n hx hb dX4_layerOf_23 rfl (lv_at hl 1 rfl) ?_
    refine lv_iload hx hb dX4_layerOf_24 (lv_at hl 0 rfl) ?_
    have J_20 : ∀ (H : Heap) (locs : List Loc) (v_18 : Int32), mW g.1 A (mwM g ad x) H → va_S A s.heap H locs → ((if v_9 = 0 then 1 else (if (inF a2 0 5) = 0 then 2 else 0)) = v_18) → W p l e rm_X4_layerOf_no s m args below meth c H locs 0 0 Q (F0 m 47 ls [.int v_18, .ref (ad 30 0)]) := by
      intro H locs v_18 hM hS ev_19
      refine m_topI (y := w) ((by subst ev_19 ev_10; exact hw)) ?_
      refine m_cpi (m_rV (As := [.int w]) (rest := []) hcf (k_X4_refused l g A ad x w) (cwV 1 hts (lw_V q1047 q1049 qs16 q41 q1050) rfl rfl rfl (by decide +kernel) ⟨Nat.le_of_ble_eq_true rfl, Nat.le_of_ble_eq_true rfl⟩) hE hA hM hS 30 0 (mwM_o g ad _) (ci := 1) rfl rfl hl.1 rfl (Nat.le_of_ble_eq_true rfl) dX4_layerOf_47 ⟨Nat.le_of_ble_eq_true rfl, Nat.le_of_ble_eq_true rfl⟩) hS (fun H locs hM hS => ?_)
      obtain ⟨x_23, ex_24⟩ : ∃ z : St, sI x 0 0 w = z := ⟨_, rfl⟩
      rw [ex_24] at hM
      refine lv_if_eq (tgt := 55) hx hb dX4_layerOf_50 (by decide) (fun c9 => absurd c9 (refF_ne hw0)) (fun _ => ?_)
      refine lv_iconst (v := 0) hx hb dX4_layerOf_53 (by decide) ?_
      rw [← hQ]
      exact m_iret () hx hb hr rfl hlk (by have hF : x_23 = sI x 0 0 w := (by subst ex_24 ev_19 ev_10; first | rfl); rw [← hF]; exact hM) hS (by subst ex_24 ev_19 ev_10; first | rfl) (by first | decide | omega) (by first | decide | omega) dX4_layerOf_54
    refine lv_if_ne (tgt := 33) hx hb dX4_layerOf_26 (by decide) (fun c_13 => ?_) (fun c_13 => ?_)
    · refine lv_iload_n hx hb dX4_layerOf_33 rfl (lv_at hl 4 rfl) ?_
      refine lv_iconst (v := 0) hx hb dX4_layerOf_34 (by decide) ?_
      refine lv_iconst (v := 5) hx hb dX4_layerOf_35 (by decide) ?_
      refine m_cpi (m_rS (As := [.int a2, .int 0, .int 5]) (rest := [.ref (ad 30 0)]) hcf (k_X4_within l g A (mwM g ad x) a2 0 5) (va_cwS 3 hts (lw_S q1044 q1045 q41 q1046) rfl rfl rfl (by decide +kernel) ⟨Nat.le_of_ble_eq_true rfl, Nat.le_of_ble_eq_true rfl⟩) hE hA hM hS rfl hl.1 rfl (Nat.le_of_ble_eq_true rfl) dX4_layerOf_36 ⟨Nat.le_of_ble_eq_true rfl, Nat.le_of_ble_eq_true rfl⟩) hS (fun H locs hM hS => ?_)
      refine lv_if_ne (tgt := 46) hx hb dX4_layerOf_39 (by decide) (fun c_17 => ?_) (fun c_17 => ?_)
      · refine lv_iconst (v := 0) hx hb dX4_layerOf_46 (by decide) ?_
        exact J_20 H locs _ hM hS (by first | (rw [if_neg c_13, if_neg c_17]) | rfl | (simp only [c_13, c_17, if_true, if_false, ite_true, ite_false, not_false_eq_true, reduceIte]))
      · refine lv_iconst (v := 2) hx hb dX4_layerOf_42 (by decide) ?_
        refine lv_goto (tgt := 47) hx hb dX4_layerOf_43 (by decide) ?_
        exact J_20 H locs _ hM hS (by first | (rw [if_neg c_13, if_pos c_17]) | rfl | (simp only [c_13, c_17, if_true, if_false, ite_true, ite_false, not_false_eq_true, reduceIte]))
    · refine lv_iconst (v := 1) hx hb dX4_layerOf_29 (by decide) ?_
      refine lv_goto (tgt := 47) hx hb dX4_layerOf_30 (by decide) ?_
      exact J_20 H locs _ hM hS (by first | (rw [if_pos c_13]) | rfl | (simp only [c_13, if_true, if_false, ite_true, ite_false, not_false_eq_true, reduceIte]))
  refine lv_if_eq (tgt := 20) hx hb dX4_layerOf_4 (by decide) (fun c_4 => ?_) (fun c_4 => ?_)
  · refine lv_iconst (v := 0) hx hb dX4_layerOf_20 (by decide) ?_
    exact J_11 H locs _ hM hS (by first | (rw [if_pos c_4]) | rfl | (simp only [c_4, if_true, if_false, ite_true, ite_false, not_false_eq_true, reduceIte]))
  · refine lv_iload_n hx hb dX4_layerOf_7 rfl (lv_at hl 2 rfl) ?_
    refine lv_iconst (v := 0) hx hb dX4_layerOf_8 (by decide) ?_
    refine lv_iconst (v := 4) hx hb dX4_layerOf_9 (by decide) ?_
    refine m_cpi (m_rS (As := [.int a1, .int 0, .int 4]) (rest := []) hcf (k_X4_within l g A (mwM g ad x) a1 0 4) (va_cwS 3 hts (lw_S q1044 q1045 q41 q1046) rfl rfl rfl (by decide +kernel) ⟨Nat.le_of_ble_eq_true rfl, Nat.le_of_ble_eq_true rfl⟩) hE hA hM hS rfl hl.1 rfl (Nat.le_of_ble_eq_true rfl) dX4_layerOf_10 ⟨Nat.le_of_ble_eq_true rfl, Nat.le_of_ble_eq_true rfl⟩) hS (fun H locs hM hS => ?_)
    refine lv_if_eq (tgt := 20) hx hb dX4_layerOf_13 (by decide) (fun c_8 => ?_) (fun c_8 => ?_)
    · refine lv_iconst (v := 0) hx hb dX4_layerOf_20 (by decide) ?_
      exact J_11 H locs _ hM hS (by first | (rw [if_neg c_4, if_pos c_8]) | rfl | (simp only [c_4, c_8, if_true, if_false, ite_true, ite_false, not_false_eq_true, reduceIte]))
    · refine lv_iconst (v := 1) hx hb dX4_layerOf_16 (by decide) ?_
      refine lv_goto (tgt := 21) hx hb dX4_layerOf_17 (by decide) ?_
      exact J_11 H locs _ hM hS (by first | (rw [if_neg c_4, if_neg c_8]) | rfl | (simp only [c_4, c_8, if_true, if_false, ite_true, ite_false, not_false_eq_true, reduceIte]))


def why_layerOf_k (a2 : Int32) : Int32 := (if (inF a2 0 5) = 0 then 2 else 0 : Int32)
abbrev rm_X4_layerOf_ok : Room := { frames := 2, cells := 0, slots := 0, locals := 42 }
set_option maxHeartbeats 400000 in
theorem k_X4_layerOf_ok (l : Launch) (g : GG) (A : Nat → Prop) (ad : Nat → Nat → Nat) (x : St) (k n : Nat) (hk : k < 25) (hn : n < 5) (a2 : Int32) (hw : why_layerOf_k a2 = 0) : Met l yX4_layerOf (ws_ yX4_layerOf cX4_layerOf 6 (some .int)) rm_X4_layerOf_ok (va_Pc [.ref (ad 30 0), .int (nI k), .int (nI n), .int a2] (mPre g A (mwM g ad x))) (pQi g A (layF (sI x 0 0 0) (5 * k + n) a2) (mwM g ad (sI x 0 0 0))) 0 0 A := by
  refine m_start RX4 rfl (by decide) (Nat.le_of_ble_eq_true rfl) ?_
  intro p e s m args below meth c hcf hr hlk hnm hE hA H locs hM hS ls hl
  have hx := hcf.1
  have hb := hcf.2.1
  have hml := hcf.2.2.1
  have hown := hcf.2.2.2.1
  have hts := hcf.2.2.2.2
  have hl : lv_has ls 6 [(0, .ref (ad 30 0)), (1, .int (nI k)), (2, .int (nI n)), (3, .int a2)] := hl
  generalize hQ : MQ below (pQi g A (layF (sI x 0 0 0) (5 * k + n) a2) (mwM g ad (sI x 0 0 0))) args s 0 0 A = Q
  refine lv_iload_n hx hb dX4_layerOf_0 rfl (lv_at hl 1 rfl) ?_
  refine m_cpi (m_rS (As := [.int (nI k)]) (rest := []) hcf (k_X4_isCell l g A (mwM g ad x) (nI k)) (va_cwS 1 hts (lw_S q1041 q1042 q41 q1043) rfl rfl rfl (by decide +kernel) ⟨Nat.le_of_ble_eq_true rfl, Nat.le_of_ble_eq_true rfl⟩) hE hA hM hS rfl hl.1 rfl (Nat.le_of_ble_eq_true rfl) dX4_layerOf_1 ⟨Nat.le_of_ble_eq_true rfl, Nat.le_of_ble_eq_true rfl⟩) hS (fun H locs hM hS => ?_)
  refine m_topI (y := 1) (inF_cell hk) ?_
  refine lv_if_eq (tgt := 20) hx hb dX4_layerOf_4 (by decide) (fun c9 => absurd c9 (by decide)) (fun _ => ?_)
  refine lv_iload_n hx hb dX4_layerOf_7 rfl (lv_at hl 2 rfl) ?_
  refine lv_iconst (v := 0) hx hb dX4_layerOf_8 (by decide) ?_
  refine lv_iconst (v := 4) hx hb dX4_layerOf_9 (by decide) ?_
  refine m_cpi (m_rS (As := [.int (nI n), .int 0, .int 4]) (rest := []) hcf (k_X4_within l g A (mwM g ad x) (nI n) 0 4) (va_cwS 3 hts (lw_S q1044 q1045 q41 q1046) rfl rfl rfl (by decide +kernel) ⟨Nat.le_of_ble_eq_true rfl, Nat.le_of_ble_eq_true rfl⟩) hE hA hM hS rfl hl.1 rfl (Nat.le_of_ble_eq_true rfl) dX4_layerOf_10 ⟨Nat.le_of_ble_eq_true rfl, Nat.le_of_ble_eq_true rfl⟩) hS (fun H locs hM hS => ?_)
  refine m_topI (y := 1) (inF_lay hn) ?_
  refine lv_if_eq (tgt := 20) hx hb dX4_layerOf_13 (by decide) (fun c9 => absurd c9 (by decide)) (fun _ => ?_)
  refine lv_iconst (v := 1) hx hb dX4_layerOf_16 (by decide) ?_
  refine lv_goto (tgt := 21) hx hb dX4_layerOf_17 (by decide) ?_
  refine lv_istore (lv' := [(4, .int 1), (0, .ref (ad 30 0)), (1, .int (nI k)), (2, .int (nI n)), (3, .int a2)]) hx hb dX4_layerOf_21 hl (by decide) rfl (fun ls hl => ?_)
  refine lv_aload_n hx hb dX4_layerOf_23 rfl (lv_at hl 1 rfl) ?_
  refine lv_iload hx hb dX4_layerOf_24 (lv_at hl 0 rfl) ?_
  refine lv_if_ne (tgt := 33) hx hb dX4_layerOf_26 (by decide) (fun _ => ?_) (fun c9 => absurd c9 (by decide))
  refine lv_iload_n hx hb dX4_layerOf_33 rfl (lv_at hl 4 rfl) ?_
  refine lv_iconst (v := 0) hx hb dX4_layerOf_34 (by decide) ?_
  refine lv_iconst (v := 5) hx hb dX4_layerOf_35 (by decide) ?_
  refine m_cpi (m_rS (As := [.int a2, .int 0, .int 5]) (rest := [.ref (ad 30 0)]) hcf (k_X4_within l g A (mwM g ad x) a2 0 5) (va_cwS 3 hts (lw_S q1044 q1045 q41 q1046) rfl rfl rfl (by decide +kernel) ⟨Nat.le_of_ble_eq_true rfl, Nat.le_of_ble_eq_true rfl⟩) hE hA hM hS rfl hl.1 rfl (Nat.le_of_ble_eq_true rfl) dX4_layerOf_36 ⟨Nat.le_of_ble_eq_true rfl, Nat.le_of_ble_eq_true rfl⟩) hS (fun H locs hM hS => ?_)
  have J_14 : ∀ (v_12 : Int32), ((if (inF a2 0 5) = 0 then 2 else 0) = v_12) → W p l e rm_X4_layerOf_ok s m args below meth c H locs 0 0 Q (F0 m 47 ls [.int v_12, .ref (ad 30 0)]) := by
    intro v_12 ev_13
    refine m_topI (y := 0) ((by subst ev_13; exact hw)) ?_
    refine m_cpi (m_rV (As := [.int 0]) (rest := []) hcf (k_X4_refused l g A ad x 0) (cwV 1 hts (lw_V q1047 q1049 qs16 q41 q1050) rfl rfl rfl (by decide +kernel) ⟨Nat.le_of_ble_eq_true rfl, Nat.le_of_ble_eq_true rfl⟩) hE hA hM hS 30 0 (mwM_o g ad _) (ci := 1) rfl rfl hl.1 rfl (Nat.le_of_ble_eq_true rfl) dX4_layerOf_47 ⟨Nat.le_of_ble_eq_true rfl, Nat.le_of_ble_eq_true rfl⟩) hS (fun H locs hM hS => ?_)
    obtain ⟨x_17, ex_18⟩ : ∃ z : St, sI x 0 0 0 = z := ⟨_, rfl⟩
    rw [ex_18] at hM
    refine m_topI (y := 0) (by decide) ?_
    refine lv_if_eq (tgt := 55) hx hb dX4_layerOf_50 (by decide) (fun _ => ?_) (fun c9 => absurd (by decide) c9)
    refine lv_iconst (v := 5) hx hb dX4_layerOf_55 (by decide) ?_
    refine lv_iload_n hx hb dX4_layerOf_56 rfl (lv_at hl 2 rfl) ?_
    refine lv_imul hx hb dX4_layerOf_57 ?_
    refine m_topI (y := nI (5 * k)) (pk_mul 5 k) ?_
    refine lv_iload_n hx hb dX4_layerOf_58 rfl (lv_at hl 3 rfl) ?_
    refine lv_iadd hx hb dX4_layerOf_59 ?_
    refine m_topI (y := nI ((5 * k) + n)) (nI_add (5 * k) n) ?_
    refine lv_istore (lv' := [(5, .int (nI ((5 * k) + n))), (4, .int 1), (0, .ref (ad 30 0)), (1, .int (nI k)), (2, .int (nI n)), (3, .int a2)]) hx hb dX4_layerOf_60 hl (by decide) rfl (fun ls hl => ?_)
    refine lv_iload_n hx hb dX4_layerOf_62 rfl (lv_at hl 5 rfl) ?_
    refine lv_iconst (v := 3) hx hb dX4_layerOf_63 (by decide) ?_
    refine lv_icmp_ge (tgt := 103) hx hb dX4_layerOf_64 (by decide) (fun c_21 => ?_) (fun c_21 => ?_)
    · refine lv_iload_n hx hb dX4_layerOf_103 rfl (lv_at hl 5 rfl) ?_
      refine lv_iconst (v := 3) hx hb dX4_layerOf_104 (by decide) ?_
      have J_29 : ∀ (H : Heap) (locs : List Loc) (v_27 : Int32), mW g.1 A (mwM g ad x_17) H → va_S A s.heap H locs → ((if a2 = 3 then (x_17.1 9 ((5 * k) + n)) else (if a2 = 4 then (x_17.1 11 ((5 * k) + n)) else (melF x_17 ((5 * k) + n)))) = v_27) → W p l e rm_X4_layerOf_ok s m args below meth c H locs 0 0 Q (F0 m 139 ls [.int v_27]) := by
        intro H locs v_27 hM hS ev_28
        rw [← hQ]
        exact m_iret () hx hb hr rfl hlk (by have hF : x_17 = sI x 0 0 0 := (by subst ev_28 ex_18 ev_13; first | (unfold layF; rw [if_pos c_21] <;> rfl) | rfl | (unfold layF; rfl) | (unfold layF; simp only [c_21, if_true, if_false, ite_true, ite_false, not_false_eq_true, reduceIte] <;> rfl) | (rw [if_pos c_21] <;> rfl)); rw [← hF]; exact hM) hS (by subst ev_28 ex_18 ev_13; first | (unfold layF; rw [if_pos c_21] <;> rfl) | rfl | (unfold layF; rfl) | (unfold layF; simp only [c_21, if_true, if_false, ite_true, ite_false, not_false_eq_true, reduceIte] <;> rfl) | (rw [if_pos c_21] <;> rfl)) (by first | decide | omega) (by first | decide | omega) dX4_layerOf_139
      refine lv_icmp_ne (tgt := 118) hx hb dX4_layerOf_105 (by decide) (fun c_22 => ?_) (fun c_22 => ?_)
      · refine lv_iload_n hx hb dX4_layerOf_118 rfl (lv_at hl 5 rfl) ?_
        refine lv_iconst (v := 4) hx hb dX4_layerOf_119 (by decide) ?_
        refine lv_icmp_ne (tgt := 133) hx hb dX4_layerOf_120 (by decide) (fun c_23 => ?_) (fun c_23 => ?_)
        · refine lv_aload_n hx hb dX4_layerOf_133 rfl (lv_at hl 2 rfl) ?_
          refine lv_iload hx hb dX4_layerOf_134 (lv_at hl 0 rfl) ?_
          refine m_cpi (m_rV (As := [.int (nI ((5 * k) + n))]) (rest := []) hcf (k_X4_melted l g A ad x_17 ((5 * k) + n) (by omega)) (cwV 1 hts (lw_V q1089 q1091 qs23 q41 q1092) rfl rfl rfl (by decide +kernel) ⟨Nat.le_of_ble_eq_true rfl, Nat.le_of_ble_eq_true rfl⟩) hE hA hM hS 30 0 (mwM_o g ad _) (ci := 1) rfl rfl hl.1 rfl (Nat.le_of_ble_eq_true rfl) dX4_layerOf_136 ⟨Nat.le_of_ble_eq_true rfl, Nat.le_of_ble_eq_true rfl⟩) hS (fun H locs hM hS => ?_)
          exact J_29 H locs _ hM hS (by first | (rw [if_neg c_22, if_neg c_23]) | rfl | (simp only [c_22, c_23, if_true, if_false, ite_true, ite_false, not_false_eq_true, reduceIte]))
        · refine lv_aload_n hx hb dX4_layerOf_123 rfl (lv_at hl 2 rfl) ?_
          refine mm_get hcf hE hM 11 (by decide) q947 rfl rfl dX4_layerOf_124 ?_
          refine lv_iload hx hb dX4_layerOf_127 (lv_at hl 0 rfl) ?_
          refine mm_ald hcf hE hM 11 rfl (by decide) ((5 * k) + n) (by show _ < 125; omega) rfl dX4_layerOf_129 ?_
          refine lv_goto (tgt := 139) hx hb dX4_layerOf_130 (by decide) ?_
          exact J_29 H locs _ hM hS (by first | (rw [if_neg c_22, if_pos c_23]) | rfl | (simp only [c_22, c_23, if_true, if_false, ite_true, ite_false, not_false_eq_true, reduceIte]))
      · refine lv_aload_n hx hb dX4_layerOf_108 rfl (lv_at hl 2 rfl) ?_
        refine mm_get hcf hE hM 9 (by decide) q945 rfl rfl dX4_layerOf_109 ?_
        refine lv_iload hx hb dX4_layerOf_112 (lv_at hl 0 rfl) ?_
        refine mm_ald hcf hE hM 9 rfl (by decide) ((5 * k) + n) (by show _ < 125; omega) rfl dX4_layerOf_114 ?_
        refine lv_goto (tgt := 139) hx hb dX4_layerOf_115 (by decide) ?_
        exact J_29 H locs _ hM hS (by first | (rw [if_pos c_22]) | rfl | (simp only [c_22, if_true, if_false, ite_true, ite_false, not_false_eq_true, reduceIte]))
    · refine lv_iload_n hx hb dX4_layerOf_67 rfl (lv_at hl 5 rfl) ?_
      have J_37 : ∀ (H : Heap) (locs : List Loc) (v_35 : Int32), mW g.1 A (mwM g ad x_17) H → va_S A s.heap H locs → ((if a2 = 0 then (degF x_17 ((5 * k) + n)) else (if a2 = 1 then (x_17.1 10 ((5 * k) + n)) else (x_17.1 8 ((5 * k) + n)))) = v_35) → W p l e rm_X4_layerOf_ok s m args below meth c H locs 0 0 Q (F0 m 102 ls [.int v_35]) := by
        intro H locs v_35 hM hS ev_36
        rw [← hQ]
        exact m_iret () hx hb hr rfl hlk (by have hF : x_17 = sI x 0 0 0 := (by subst ev_36 ex_18 ev_13; first | (unfold layF; rw [if_neg c_21] <;> rfl) | rfl | (unfold layF; rfl) | (unfold layF; simp only [c_21, if_true, if_false, ite_true, ite_false, not_false_eq_true, reduceIte] <;> rfl) | (rw [if_neg c_21] <;> rfl)); rw [← hF]; exact hM) hS (by subst ev_36 ex_18 ev_13; first | (unfold layF; rw [if_neg c_21] <;> rfl) | rfl | (unfold layF; rfl) | (unfold layF; simp only [c_21, if_true, if_false, ite_true, ite_false, not_false_eq_true, reduceIte] <;> rfl) | (rw [if_neg c_21] <;> rfl)) (by first | decide | omega) (by first | decide | omega) dX4_layerOf_102
      refine lv_if_ne (tgt := 80) hx hb dX4_layerOf_68 (by decide) (fun c_30 => ?_) (fun c_30 => ?_)
      · refine lv_iload_n hx hb dX4_layerOf_80 rfl (lv_at hl 5 rfl) ?_
        refine lv_iconst (v := 1) hx hb dX4_layerOf_81 (by decide) ?_
        refine lv_icmp_ne (tgt := 95) hx hb dX4_layerOf_82 (by decide) (fun c_31 => ?_) (fun c_31 => ?_)
        · refine lv_aload_n hx hb dX4_layerOf_95 rfl (lv_at hl 2 rfl) ?_
          refine mm_get hcf hE hM 8 (by decide) q944 rfl rfl dX4_layerOf_96 ?_
          refine lv_iload hx hb dX4_layerOf_99 (lv_at hl 0 rfl) ?_
          refine mm_ald hcf hE hM 8 rfl (by decide) ((5 * k) + n) (by show _ < 125; omega) rfl dX4_layerOf_101 ?_
          exact J_37 H locs _ hM hS (by first | (rw [if_neg c_30, if_neg c_31]) | rfl | (simp only [c_30, c_31, if_true, if_false, ite_true, ite_false, not_false_eq_true, reduceIte]))
        · refine lv_aload_n hx hb dX4_layerOf_85 rfl (lv_at hl 2 rfl) ?_
          refine mm_get hcf hE hM 10 (by decide) q946 rfl rfl dX4_layerOf_86 ?_
          refine lv_iload hx hb dX4_layerOf_89 (lv_at hl 0 rfl) ?_
          refine mm_ald hcf hE hM 10 rfl (by decide) ((5 * k) + n) (by show _ < 125; omega) rfl dX4_layerOf_91 ?_
          refine lv_goto (tgt := 102) hx hb dX4_layerOf_92 (by decide) ?_
          exact J_37 H locs _ hM hS (by first | (rw [if_neg c_30, if_pos c_31]) | rfl | (simp only [c_30, c_31, if_true, if_false, ite_true, ite_false, not_false_eq_true, reduceIte]))
      · refine lv_aload_n hx hb dX4_layerOf_71 rfl (lv_at hl 2 rfl) ?_
        refine lv_iload hx hb dX4_layerOf_72 (lv_at hl 0 rfl) ?_
        refine m_cpi (m_rV (As := [.int (nI ((5 * k) + n))]) (rest := []) hcf (k_X4_degreesOf l g A ad x_17 ((5 * k) + n) (by omega)) (cwV 1 hts (lw_V q1070 q1072 qs19 q41 q1073) rfl rfl rfl (by decide +kernel) ⟨Nat.le_of_ble_eq_true rfl, Nat.le_of_ble_eq_true rfl⟩) hE hA hM hS 30 0 (mwM_o g ad _) (ci := 1) rfl rfl hl.1 rfl (Nat.le_of_ble_eq_true rfl) dX4_layerOf_74 ⟨Nat.le_of_ble_eq_true rfl, Nat.le_of_ble_eq_true rfl⟩) hS (fun H locs hM hS => ?_)
        refine lv_goto (tgt := 102) hx hb dX4_layerOf_77 (by decide) ?_
        exact J_37 H locs _ hM hS (by first | (rw [if_pos c_30]) | rfl | (simp only [c_30, if_true, if_false, ite_true, ite_false, not_false_eq_true, reduceIte]))
  refine lv_if_ne (tgt := 46) hx hb dX4_layerOf_39 (by decide) (fun c_11 => ?_) (fun c_11 => ?_)
  · refine lv_iconst (v := 0) hx hb dX4_layerOf_46 (by decide) ?_
    exact J_14 _ (by first | (rw [if_neg c_11]) | rfl | (simp only [c_11, if_true, if_false, ite_true, ite_false, not_false_eq_true, reduceIte]))
  · refine lv_iconst (v := 2) hx hb dX4_layerOf_42 (by decide) ?_
    refine lv_goto (tgt := 47) hx hb dX4_layerOf_43 (by decide) ?_
    exact J_14 _ (by first | (rw [if_pos c_11]) | rfl | (simp only [c_11, if_true, if_false, ite_true, ite_false, not_false_eq_true, reduceIte]))


def why_neighbour (a0 a1 : Int32) : Int32 := (if (inF a0 0 24) = 0 then 1 else (if a1 < 0 then 1 else 0) : Int32)
abbrev rm_X4_neighbour_no : Room := { frames := 2, cells := 0, slots := 0, locals := 42 }
set_option maxHeartbeats 400000 in
theorem k_X4_neighbour_no (l : Launch) (g : GG) (A : Nat → Prop) (ad : Nat → Nat → Nat) (x : St) (a0 a1 : Int32) (w : Int32) (hw : why_neighbour a0 a1 = w) (hw0 : ¬ w = 0) : Met l yX4_neighbour (ws_ yX4_neighbour cX4_neighbour 7 (some .int)) rm_X4_neighbour_no (va_Pc [.ref (ad 30 0), .int a0, .int a1] (mPre g A (mwM g ad x))) (pQi g A 0 (mwM g ad (sI x 0 0 w))) 0 0 A := by
  refine m_start RX4 rfl (by decide) (Nat.le_of_ble_eq_true rfl) ?_
  intro p e s m args below meth c hcf hr hlk hnm hE hA H locs hM hS ls hl
  have hx := hcf.1
  have hb := hcf.2.1
  have hml := hcf.2.2.1
  have hown := hcf.2.2.2.1
  have hts := hcf.2.2.2.2
  have hl : lv_has ls 7 [(0, .ref (ad 30 0)), (1, .int a0), (2, .int a1)] := hl
  generalize hQ : MQ below (pQi g A 0 (mwM g ad (sI x 0 0 w))) args s 0 0 A = Q
  refine lv_aload_n hx hb dX4_neighbour_0 rfl (lv_at hl 0 rfl) ?_
  refine lv_iload_n hx hb dX4_neighbour_1 rfl (lv_at hl 1 rfl) ?_
  refine m_cpi (m_rS (As := [.int a0]) (rest := [.ref (ad 30 0)]) hcf (k_X4_isCell l g A (mwM g ad x) a0) (va_cwS 1 hts (lw_S q1041 q1042 q41 q1043) rfl rfl rfl (by decide +kernel) ⟨Nat.le_of_ble_eq_true rfl, Nat.le_of_ble_eq_true rfl⟩) hE hA hM hS rfl hl.1 rfl (Nat.le_of_ble_eq_true rfl) dX4_neighbour_2 ⟨Nat.le_of_ble_eq_true rfl, Nat.le_of_ble_eq_true rfl⟩) hS (fun H locs hM hS => ?_)
  have J_8 : ∀ (v_6 : Int32), ((if (inF a0 0 24) = 0 then 1 else (if a1 < 0 then 1 else 0)) = v_6) → W p l e rm_X4_neighbour_no s m args below meth c H locs 0 0 Q (F0 m 17 ls [.int v_6, .ref (ad 30 0)]) := by
    intro v_6 ev_7
    refine m_topI (y := w) ((by subst ev_7; exact hw)) ?_
    refine m_cpi (m_rV (As := [.int w]) (rest := []) hcf (k_X4_refused l g A ad x w) (cwV 1 hts (lw_V q1047 q1049 qs16 q41 q1050) rfl rfl rfl (by decide +kernel) ⟨Nat.le_of_ble_eq_true rfl, Nat.le_of_ble_eq_true rfl⟩) hE hA hM hS 30 0 (mwM_o g ad _) (ci := 1) rfl rfl hl.1 rfl (Nat.le_of_ble_eq_true rfl) dX4_neighbour_17 ⟨Nat.le_of_ble_eq_true rfl, Nat.le_of_ble_eq_true rfl⟩) hS (fun H locs hM hS => ?_)
    obtain ⟨x_11, ex_12⟩ : ∃ z : St, sI x 0 0 w = z := ⟨_, rfl⟩
    rw [ex_12] at hM
    refine lv_if_eq (tgt := 25) hx hb dX4_neighbour_20 (by decide) (fun c9 => absurd c9 (refF_ne hw0)) (fun _ => ?_)
    refine lv_iconst (v := 0) hx hb dX4_neighbour_23 (by decide) ?_
    rw [← hQ]
    exact m_iret () hx hb hr rfl hlk (by have hF : x_11 = sI x 0 0 w := (by subst ex_12 ev_7; first | rfl); rw [← hF]; exact hM) hS (by subst ex_12 ev_7; first | rfl) (by first | decide | omega) (by first | decide | omega) dX4_neighbour_24
  refine lv_if_eq (tgt := 16) hx hb dX4_neighbour_5 (by decide) (fun c_4 => ?_) (fun c_4 => ?_)
  · refine lv_iconst (v := 1) hx hb dX4_neighbour_16 (by decide) ?_
    exact J_8 _ (by first | (rw [if_pos c_4]) | rfl | (simp only [c_4, if_true, if_false, ite_true, ite_false, not_false_eq_true, reduceIte]))
  · refine lv_iload_n hx hb dX4_neighbour_8 rfl (lv_at hl 2 rfl) ?_
    refine lv_if_lt (tgt := 16) hx hb dX4_neighbour_9 (by decide) (fun c_5 => ?_) (fun c_5 => ?_)
    · refine lv_iconst (v := 1) hx hb dX4_neighbour_16 (by decide) ?_
      exact J_8 _ (by first | (rw [if_neg c_4, if_pos c_5]) | rfl | (simp only [c_4, c_5, if_true, if_false, ite_true, ite_false, not_false_eq_true, reduceIte]))
    · refine lv_iconst (v := 0) hx hb dX4_neighbour_12 (by decide) ?_
      refine lv_goto (tgt := 17) hx hb dX4_neighbour_13 (by decide) ?_
      exact J_8 _ (by first | (rw [if_neg c_4, if_neg c_5]) | rfl | (simp only [c_4, c_5, if_true, if_false, ite_true, ite_false, not_false_eq_true, reduceIte]))


def why_neighbour_k (a1 : Int32) : Int32 := (if a1 < 0 then 1 else 0 : Int32)
abbrev rm_X4_neighbour_ok : Room := { frames := 2, cells := 0, slots := 0, locals := 42 }
set_option maxHeartbeats 400000 in
theorem k_X4_neighbour_ok (l : Launch) (g : GG) (A : Nat → Prop) (ad : Nat → Nat → Nat) (x : St) (k : Nat) (hk : k < 25) (a1 : Int32) (hw : why_neighbour_k a1 = 0) : Met l yX4_neighbour (ws_ yX4_neighbour cX4_neighbour 7 (some .int)) rm_X4_neighbour_ok (va_Pc [.ref (ad 30 0), .int (nI k), .int a1] (mPre g A (mwM g ad x))) (pQi g A ((neiP k a1 4).1) (mwM g ad (sI x 0 0 0))) 0 0 A := by
  refine m_start RX4 rfl (by decide) (Nat.le_of_ble_eq_true rfl) ?_
  intro p e s m args below meth c hcf hr hlk hnm hE hA H locs hM hS ls hl
  have hx := hcf.1
  have hb := hcf.2.1
  have hml := hcf.2.2.1
  have hown := hcf.2.2.2.1
  have hts := hcf.2.2.2.2
  have hl : lv_has ls 7 [(0, .ref (ad 30 0)), (1, .int (nI k)), (2, .int a1)] := hl
  generalize hQ : MQ below (pQi g A ((neiP k a1 4).1) (mwM g ad (sI x 0 0 0))) args s 0 0 A = Q
  refine lv_aload_n hx hb dX4_neighbour_0 rfl (lv_at hl 0 rfl) ?_
  refine lv_iload_n hx hb dX4_neighbour_1 rfl (lv_at hl 1 rfl) ?_
  refine m_cpi (m_rS (As := [.int (nI k)]) (rest := [.ref (ad 30 0)]) hcf (k_X4_isCell l g A (mwM g ad x) (nI k)) (va_cwS 1 hts (lw_S q1041 q1042 q41 q1043) rfl rfl rfl (by decide +kernel) ⟨Nat.le_of_ble_eq_true rfl, Nat.le_of_ble_eq_true rfl⟩) hE hA hM hS rfl hl.1 rfl (Nat.le_of_ble_eq_true rfl) dX4_neighbour_2 ⟨Nat.le_of_ble_eq_true rfl, Nat.le_of_ble_eq_true rfl⟩) hS (fun H locs hM hS => ?_)
  refine m_topI (y := 1) (inF_cell hk) ?_
  refine lv_if_eq (tgt := 16) hx hb dX4_neighbour_5 (by decide) (fun c9 => absurd c9 (by decide)) (fun _ => ?_)
  refine lv_iload_n hx hb dX4_neighbour_8 rfl (lv_at hl 2 rfl) ?_
  have J_7 : ∀ (v_5 : Int32), ((if a1 < 0 then 1 else 0) = v_5) → W p l e rm_X4_neighbour_ok s m args below meth c H locs 0 0 Q (F0 m 17 ls [.int v_5, .ref (ad 30 0)]) := by
    intro v_5 ev_6
    refine m_topI (y := 0) ((by subst ev_6; exact hw)) ?_
    refine m_cpi (m_rV (As := [.int 0]) (rest := []) hcf (k_X4_refused l g A ad x 0) (cwV 1 hts (lw_V q1047 q1049 qs16 q41 q1050) rfl rfl rfl (by decide +kernel) ⟨Nat.le_of_ble_eq_true rfl, Nat.le_of_ble_eq_true rfl⟩) hE hA hM hS 30 0 (mwM_o g ad _) (ci := 1) rfl rfl hl.1 rfl (Nat.le_of_ble_eq_true rfl) dX4_neighbour_17 ⟨Nat.le_of_ble_eq_true rfl, Nat.le_of_ble_eq_true rfl⟩) hS (fun H locs hM hS => ?_)
    obtain ⟨x_10, ex_11⟩ : ∃ z : St, sI x 0 0 0 = z := ⟨_, rfl⟩
    rw [ex_11] at hM
    refine m_topI (y := 0) (by decide) ?_
    refine lv_if_eq (tgt := 25) hx hb dX4_neighbour_20 (by decide) (fun _ => ?_) (fun c9 => absurd (by decide) c9)
    refine lv_iconst (v := (-1)) hx hb dX4_neighbour_25 (by decide) ?_
    refine lv_istore_n (lv' := [(3, .int (-1)), (0, .ref (ad 30 0)), (1, .int (nI k)), (2, .int a1)]) hx hb dX4_neighbour_26 rfl hl (by decide) rfl (fun ls hl => ?_)
    refine lv_iconst (v := 0) hx hb dX4_neighbour_27 (by decide) ?_
    refine lv_istore (lv' := [(4, .int 0), (3, .int (-1)), (0, .ref (ad 30 0)), (1, .int (nI k)), (2, .int a1)]) hx hb dX4_neighbour_28 hl (by decide) rfl (fun ls hl => ?_)
    refine lv_iconst (v := 0) hx hb dX4_neighbour_30 (by decide) ?_
    refine lv_istore (lv' := [(5, .int 0), (4, .int 0), (3, .int (-1)), (0, .ref (ad 30 0)), (1, .int (nI k)), (2, .int a1)]) hx hb dX4_neighbour_31 hl (by decide) rfl (fun ls hl => ?_)
    have L_16 : ∀ (n9 i_16 : Nat), i_16 + n9 = 4 → ∀ (H : Heap) (locs : List Loc) (ls : Array Slot), mW g.1 A (mwM g ad x_10) H → va_S A s.heap H locs → lv_has ls 7 [(0, .ref (ad 30 0)), (1, .int (nI k)), (2, .int a1), (3, .int ((neiP k a1 i_16).1)), (4, .int ((neiP k a1 i_16).2)), (5, .int (nI i_16))] → W p l e rm_X4_neighbour_ok s m args below meth c H locs 0 0 Q (F0 m 33 ls []) := by
      intro n9
      induction n9 with
      | zero =>
        intro i_16 hi H locs ls hM hS hl 
        have hi : 4 = i_16 := by omega
        subst hi
        refine lv_iload hx hb dX4_neighbour_33 (lv_at hl 5 rfl) ?_
        refine lv_iconst (v := 4) hx hb dX4_neighbour_35 (by decide) ?_
        refine lv_icmp_ge (tgt := 88) hx hb dX4_neighbour_36 (by decide) (fun _ => ?_) (fun c9 => absurd (by decide) c9)
        refine lv_iload_n hx hb dX4_neighbour_88 rfl (lv_at hl 3 rfl) ?_
        rw [← hQ]
        exact m_iret () hx hb hr rfl hlk (by have hF : x_10 = sI x 0 0 0 := (by subst ex_11 ev_6; first | rfl); rw [← hF]; exact hM) hS (by subst ex_11 ev_6; first | rfl) (by first | decide | omega) (by first | decide | omega) dX4_neighbour_89
      | succ n9 ih =>
        intro i_16 hi H locs ls hM hS hl 
        have hlt_i_16 : i_16 < 4 := by omega
        refine lv_iload hx hb dX4_neighbour_33 (lv_at hl 5 rfl) ?_
        refine lv_iconst (v := 4) hx hb dX4_neighbour_35 (by decide) ?_
        refine lv_icmp_ge (tgt := 88) hx hb dX4_neighbour_36 (by decide) (fun c9 => absurd c9 (nI_ge (a := i_16) (b := 4) (by omega) (by decide))) (fun _ => ?_)
        refine lv_iload_n hx hb dX4_neighbour_39 rfl (lv_at hl 1 rfl) ?_
        refine lv_iload hx hb dX4_neighbour_40 (lv_at hl 5 rfl) ?_
        refine m_cpi (m_rS (As := [.int (nI k), .int (nI i_16)]) (rest := []) hcf (k_X4_beside l g A (mwM g ad x_10) (nI k) (nI i_16)) (va_cwS 2 hts (lw_S q1097 q1098 q41 q1099) rfl rfl rfl (by decide +kernel) ⟨Nat.le_of_ble_eq_true rfl, Nat.le_of_ble_eq_true rfl⟩) hE hA hM hS rfl hl.1 rfl (Nat.le_of_ble_eq_true rfl) dX4_neighbour_42 ⟨Nat.le_of_ble_eq_true rfl, Nat.le_of_ble_eq_true rfl⟩) hS (fun H locs hM hS => ?_)
        refine lv_istore (lv' := [(6, .int (besR (nI k) (nI i_16))), (0, .ref (ad 30 0)), (1, .int (nI k)), (2, .int a1), (3, .int ((neiP k a1 i_16).1)), (4, .int ((neiP k a1 i_16).2)), (5, .int (nI i_16))]) hx hb dX4_neighbour_45 hl (by decide) rfl (fun ls hl => ?_)
        refine lv_iload hx hb dX4_neighbour_47 (lv_at hl 0 rfl) ?_
        refine lv_iconst (v := (-1)) hx hb dX4_neighbour_49 (by decide) ?_
        have J_27 : ∀ (v_25 : Int32), ((if (besR (nI k) (nI i_16)) = (-1) then ((neiP k a1 i_16).1) else (if ((neiP k a1 i_16).2) = a1 then (besR (nI k) (nI i_16)) else ((neiP k a1 i_16).1))) = v_25) → W p l e rm_X4_neighbour_ok s m args below meth c H locs 0 0 Q (F0 m 65 ls [.int v_25]) := by
          intro v_25 ev_26
          refine lv_istore_n (lv' := [(3, .int v_25), (6, .int (besR (nI k) (nI i_16))), (0, .ref (ad 30 0)), (1, .int (nI k)), (2, .int a1), (4, .int ((neiP k a1 i_16).2)), (5, .int (nI i_16))]) hx hb dX4_neighbour_65 rfl hl (by decide) rfl (fun ls hl => ?_)
          refine lv_iload hx hb dX4_neighbour_66 (lv_at hl 5 rfl) ?_
          refine lv_iload hx hb dX4_neighbour_68 (lv_at hl 1 rfl) ?_
          refine lv_iconst (v := (-1)) hx hb dX4_neighbour_70 (by decide) ?_
          have J_32 : ∀ (v_30 : Int32), ((if (besR (nI k) (nI i_16)) = (-1) then 0 else 1) = v_30) → W p l e rm_X4_neighbour_ok s m args below meth c H locs 0 0 Q (F0 m 79 ls [.int v_30, .int ((neiP k a1 i_16).2)]) := by
            intro v_30 ev_31
            refine lv_iadd hx hb dX4_neighbour_79 ?_
            refine lv_istore (lv' := [(4, .int (((neiP k a1 i_16).2) + v_30)), (3, .int v_25), (6, .int (besR (nI k) (nI i_16))), (0, .ref (ad 30 0)), (1, .int (nI k)), (2, .int a1), (5, .int (nI i_16))]) hx hb dX4_neighbour_80 hl (by decide) rfl (fun ls hl => ?_)
            refine lv_iinc (v := nI (i_16 + 1)) (lv' := [(5, .int (nI (i_16 + 1))), (4, .int (((neiP k a1 i_16).2) + v_30)), (3, .int v_25), (6, .int (besR (nI k) (nI i_16))), (0, .ref (ad 30 0)), (1, .int (nI k)), (2, .int a1)]) hx hb dX4_neighbour_82 hl (k := 6) rfl (nI_add i_16 1) (by decide) rfl (fun ls hl => ?_)
            refine lv_goto (tgt := 33) hx hb dX4_neighbour_85 (by decide) ?_
            exact ih (i_16 + 1) (by omega) H locs ls hM hS (lv_sub hl [4, 5, 6, 2, 1, 0] (by subst ev_31 ev_26; rfl))
          refine lv_icmp_eq (tgt := 78) hx hb dX4_neighbour_71 (by decide) (fun c_29 => ?_) (fun c_29 => ?_)
          · refine lv_iconst (v := 0) hx hb dX4_neighbour_78 (by decide) ?_
            exact J_32 _ (by first | (rw [if_pos c_29]) | rfl | (simp only [c_29, if_true, if_false, ite_true, ite_false, not_false_eq_true, reduceIte]))
          · refine lv_iconst (v := 1) hx hb dX4_neighbour_74 (by decide) ?_
            refine lv_goto (tgt := 79) hx hb dX4_neighbour_75 (by decide) ?_
            exact J_32 _ (by first | (rw [if_neg c_29]) | rfl | (simp only [c_29, if_true, if_false, ite_true, ite_false, not_false_eq_true, reduceIte]))
        refine lv_icmp_eq (tgt := 64) hx hb dX4_neighbour_50 (by decide) (fun c_23 => ?_) (fun c_23 => ?_)
        · refine lv_iload_n hx hb dX4_neighbour_64 rfl (lv_at hl 4 rfl) ?_
          exact J_27 _ (by first | (rw [if_pos c_23]) | rfl | (simp only [c_23, if_true, if_false, ite_true, ite_false, not_false_eq_true, reduceIte]))
        · refine lv_iload hx hb dX4_neighbour_53 (lv_at hl 5 rfl) ?_
          refine lv_iload_n hx hb dX4_neighbour_55 rfl (lv_at hl 3 rfl) ?_
          refine lv_icmp_ne (tgt := 64) hx hb dX4_neighbour_56 (by decide) (fun c_24 => ?_) (fun c_24 => ?_)
          · refine lv_iload_n hx hb dX4_neighbour_64 rfl (lv_at hl 4 rfl) ?_
            exact J_27 _ (by first | (rw [if_neg c_23, if_neg c_24]) | rfl | (simp only [c_23, c_24, if_true, if_false, ite_true, ite_false, not_false_eq_true, reduceIte]))
          · refine lv_iload hx hb dX4_neighbour_59 (lv_at hl 0 rfl) ?_
            refine lv_goto (tgt := 65) hx hb dX4_neighbour_61 (by decide) ?_
            exact J_27 _ (by first | (rw [if_neg c_23, if_pos c_24]) | rfl | (simp only [c_23, c_24, if_true, if_false, ite_true, ite_false, not_false_eq_true, reduceIte]))
    exact L_16 (4) 0 (by omega) H locs ls hM hS (lv_sub hl [3, 4, 5, 2, 1, 0] rfl)
  refine lv_if_lt (tgt := 16) hx hb dX4_neighbour_9 (by decide) (fun c_4 => ?_) (fun c_4 => ?_)
  · refine lv_iconst (v := 1) hx hb dX4_neighbour_16 (by decide) ?_
    exact J_7 _ (by first | (rw [if_pos c_4]) | rfl | (simp only [c_4, if_true, if_false, ite_true, ite_false, not_false_eq_true, reduceIte]))
  · refine lv_iconst (v := 0) hx hb dX4_neighbour_12 (by decide) ?_
    refine lv_goto (tgt := 17) hx hb dX4_neighbour_13 (by decide) ?_
    exact J_7 _ (by first | (rw [if_neg c_4]) | rfl | (simp only [c_4, if_true, if_false, ite_true, ite_false, not_false_eq_true, reduceIte]))


abbrev rm_X4_lakes : Room := { frames := 2, cells := 0, slots := 0, locals := 45 }
set_option maxHeartbeats 400000 in
theorem k_X4_lakes (l : Launch) (g : GG) (A : Nat → Prop) (ad : Nat → Nat → Nat) (x : St) : Met l yX4_lakes (ws_ yX4_lakes cX4_lakes 5 (some .int)) rm_X4_lakes (va_Pc [.ref (ad 30 0)] (mPre g A (mwM g ad x))) (pQi g A (lakO (gaF (sI x 0 0 0)) 25) (mwM g ad (gaF (sI x 0 0 0)))) 0 0 A := by
  refine m_start RX4 rfl (by decide) (Nat.le_of_ble_eq_true rfl) ?_
  intro p e s m args below meth c hcf hr hlk hnm hE hA H locs hM hS ls hl
  have hx := hcf.1
  have hb := hcf.2.1
  have hml := hcf.2.2.1
  have hown := hcf.2.2.2.1
  have hts := hcf.2.2.2.2
  have hl : lv_has ls 5 [(0, .ref (ad 30 0))] := hl
  generalize hQ : MQ below (pQi g A (lakO (gaF (sI x 0 0 0)) 25) (mwM g ad (gaF (sI x 0 0 0)))) args s 0 0 A = Q
  refine lv_aload_n hx hb dX4_lakes_0 rfl (lv_at hl 0 rfl) ?_
  refine lv_iconst (v := 0) hx hb dX4_lakes_1 (by decide) ?_
  refine mm_puti hcf hE hM hS 0 (by decide) rfl q936 rfl rfl rfl 0 rfl dX4_lakes_2 (fun x_1 H locs ex_2 hM hS => ?_)
  refine lv_aload_n hx hb dX4_lakes_5 rfl (lv_at hl 0 rfl) ?_
  refine m_cpv (m_rV (As := []) (rest := []) hcf (k_X4_gather l g A ad x_1 ) (cwV 0 hts (lw_V q1117 q1119 qs27 q41 q1120) rfl rfl rfl (by decide +kernel) ⟨Nat.le_of_ble_eq_true rfl, Nat.le_of_ble_eq_true rfl⟩) hE hA hM hS 30 0 (mwM_o g ad _) (ci := 1) rfl rfl hl.1 rfl (Nat.le_of_ble_eq_true rfl) dX4_lakes_6 ⟨Nat.le_of_ble_eq_true rfl, Nat.le_of_ble_eq_true rfl⟩) hS (fun H locs hM hS => ?_)
  obtain ⟨x_5, ex_6⟩ : ∃ z : St, gaF x_1 = z := ⟨_, rfl⟩
  rw [ex_6] at hM
  refine lv_iconst (v := 0) hx hb dX4_lakes_9 (by decide) ?_
  refine lv_istore_n (lv' := [(1, .int 0), (0, .ref (ad 30 0))]) hx hb dX4_lakes_10 rfl hl (by decide) rfl (fun ls hl => ?_)
  refine lv_iconst (v := 0) hx hb dX4_lakes_11 (by decide) ?_
  refine lv_istore_n (lv' := [(2, .int 0), (1, .int 0), (0, .ref (ad 30 0))]) hx hb dX4_lakes_12 rfl hl (by decide) rfl (fun ls hl => ?_)
  have L_10 : ∀ (n9 i_10 : Nat), i_10 + n9 = 25 → ∀ (H : Heap) (locs : List Loc) (ls : Array Slot), mW g.1 A (mwM g ad x_5) H → va_S A s.heap H locs → lv_has ls 5 [(0, .ref (ad 30 0)), (1, .int (lakO x_5 i_10)), (2, .int (nI i_10))] → W p l e rm_X4_lakes s m args below meth c H locs 0 0 Q (F0 m 13 ls []) := by
    intro n9
    induction n9 with
    | zero =>
      intro i_10 hi H locs ls hM hS hl 
      have hi : 25 = i_10 := by omega
      subst hi
      refine lv_iload_n hx hb dX4_lakes_13 rfl (lv_at hl 2 rfl) ?_
      refine lv_bipush (v := 25) hx hb dX4_lakes_14 (by decide) ?_
      refine lv_icmp_ge (tgt := 85) hx hb dX4_lakes_16 (by decide) (fun _ => ?_) (fun c9 => absurd (by decide) c9)
      refine lv_iload_n hx hb dX4_lakes_85 rfl (lv_at hl 1 rfl) ?_
      rw [← hQ]
      exact m_iret () hx hb hr rfl hlk (by have hF : x_5 = gaF (sI x 0 0 0) := (by subst ex_6 ex_2; first | rfl); rw [← hF]; exact hM) hS (by subst ex_6 ex_2; first | rfl) (by first | decide | omega) (by first | decide | omega) dX4_lakes_86
    | succ n9 ih =>
      intro i_10 hi H locs ls hM hS hl 
      have hlt_i_10 : i_10 < 25 := by omega
      refine lv_iload_n hx hb dX4_lakes_13 rfl (lv_at hl 2 rfl) ?_
      refine lv_bipush (v := 25) hx hb dX4_lakes_14 (by decide) ?_
      refine lv_icmp_ge (tgt := 85) hx hb dX4_lakes_16 (by decide) (fun c9 => absurd c9 (nI_ge (a := i_10) (b := 25) (by omega) (by decide))) (fun _ => ?_)
      refine lv_iconst (v := 0) hx hb dX4_lakes_19 (by decide) ?_
      refine lv_istore_n (lv' := [(3, .int 0), (0, .ref (ad 30 0)), (1, .int (lakO x_5 i_10)), (2, .int (nI i_10))]) hx hb dX4_lakes_20 rfl hl (by decide) rfl (fun ls hl => ?_)
      refine lv_iconst (v := 0) hx hb dX4_lakes_21 (by decide) ?_
      refine lv_istore (lv' := [(4, .int 0), (3, .int 0), (0, .ref (ad 30 0)), (1, .int (lakO x_5 i_10)), (2, .int (nI i_10))]) hx hb dX4_lakes_22 hl (by decide) rfl (fun ls hl => ?_)
      have L_15 : ∀ (n9 i_15 : Nat), i_15 + n9 = 25 → ∀ (H : Heap) (locs : List Loc) (ls : Array Slot), mW g.1 A (mwM g ad x_5) H → va_S A s.heap H locs → lv_has ls 5 [(0, .ref (ad 30 0)), (1, .int (lakO x_5 i_10)), (2, .int (nI i_10)), (3, .int (lakI x_5 i_10 i_15)), (4, .int (nI i_15))] → W p l e rm_X4_lakes s m args below meth c H locs 0 0 Q (F0 m 24 ls []) := by
        intro n9
        induction n9 with
        | zero =>
          intro i_15 hi H locs ls hM hS hl 
          have hi : 25 = i_15 := by omega
          subst hi
          refine lv_iload hx hb dX4_lakes_24 (lv_at hl 4 rfl) ?_
          refine lv_bipush (v := 25) hx hb dX4_lakes_26 (by decide) ?_
          refine lv_icmp_ge (tgt := 67) hx hb dX4_lakes_28 (by decide) (fun _ => ?_) (fun c9 => absurd (by decide) c9)
          refine lv_iload_n hx hb dX4_lakes_67 rfl (lv_at hl 1 rfl) ?_
          refine lv_iload_n hx hb dX4_lakes_68 rfl (lv_at hl 3 rfl) ?_
          have J_20 : ∀ (v_18 : Int32), ((if (lakI x_5 i_10 25) = 0 then 0 else 1) = v_18) → W p l e rm_X4_lakes s m args below meth c H locs 0 0 Q (F0 m 77 ls [.int v_18, .int (lakO x_5 i_10)]) := by
            intro v_18 ev_19
            refine lv_iadd hx hb dX4_lakes_77 ?_
            refine lv_istore_n (lv' := [(1, .int ((lakO x_5 i_10) + v_18)), (0, .ref (ad 30 0)), (2, .int (nI i_10)), (3, .int (lakI x_5 i_10 25)), (4, .int (nI 25))]) hx hb dX4_lakes_78 rfl hl (by decide) rfl (fun ls hl => ?_)
            refine lv_iinc (v := nI (i_10 + 1)) (lv' := [(2, .int (nI (i_10 + 1))), (1, .int ((lakO x_5 i_10) + v_18)), (0, .ref (ad 30 0)), (3, .int (lakI x_5 i_10 25)), (4, .int (nI 25))]) hx hb dX4_lakes_79 hl (k := 2) rfl (nI_add i_10 1) (by decide) rfl (fun ls hl => ?_)
            refine lv_goto (tgt := 13) hx hb dX4_lakes_82 (by decide) ?_
            exact ih (i_10 + 1) (by omega) H locs ls hM hS (lv_sub hl [2, 1, 0] (by subst ev_19; rfl))
          refine lv_if_eq (tgt := 76) hx hb dX4_lakes_69 (by decide) (fun c_17 => ?_) (fun c_17 => ?_)
          · refine lv_iconst (v := 0) hx hb dX4_lakes_76 (by decide) ?_
            exact J_20 _ (by first | (rw [if_pos c_17]) | rfl | (simp only [c_17, if_true, if_false, ite_true, ite_false, not_false_eq_true, reduceIte]))
          · refine lv_iconst (v := 1) hx hb dX4_lakes_72 (by decide) ?_
            refine lv_goto (tgt := 77) hx hb dX4_lakes_73 (by decide) ?_
            exact J_20 _ (by first | (rw [if_neg c_17]) | rfl | (simp only [c_17, if_true, if_false, ite_true, ite_false, not_false_eq_true, reduceIte]))
        | succ n9 ih =>
          intro i_15 hi H locs ls hM hS hl 
          have hlt_i_15 : i_15 < 25 := by omega
          refine lv_iload hx hb dX4_lakes_24 (lv_at hl 4 rfl) ?_
          refine lv_bipush (v := 25) hx hb dX4_lakes_26 (by decide) ?_
          refine lv_icmp_ge (tgt := 67) hx hb dX4_lakes_28 (by decide) (fun c9 => absurd c9 (nI_ge (a := i_15) (b := 25) (by omega) (by decide))) (fun _ => ?_)
          refine lv_iload_n hx hb dX4_lakes_31 rfl (lv_at hl 3 rfl) ?_
          have J_32 : ∀ (H : Heap) (locs : List Loc) (v_30 : Int32), mW g.1 A (mwM g ad x_5) H → va_S A s.heap H locs → ((if (lakI x_5 i_10 i_15) = 0 then (if (x_5.1 7 i_15) = (nI i_10) then (if (lakF x_5 i_15) = 0 then 0 else 1) else 0) else 1) = v_30) → W p l e rm_X4_lakes s m args below meth c H locs 0 0 Q (F0 m 60 ls [.int v_30]) := by
            intro H locs v_30 hM hS ev_31
            refine lv_istore_n (lv' := [(3, .int v_30), (0, .ref (ad 30 0)), (1, .int (lakO x_5 i_10)), (2, .int (nI i_10)), (4, .int (nI i_15))]) hx hb dX4_lakes_60 rfl hl (by decide) rfl (fun ls hl => ?_)
            refine lv_iinc (v := nI (i_15 + 1)) (lv' := [(4, .int (nI (i_15 + 1))), (3, .int v_30), (0, .ref (ad 30 0)), (1, .int (lakO x_5 i_10)), (2, .int (nI i_10))]) hx hb dX4_lakes_61 hl (k := 4) rfl (nI_add i_15 1) (by decide) rfl (fun ls hl => ?_)
            refine lv_goto (tgt := 24) hx hb dX4_lakes_64 (by decide) ?_
            exact ih (i_15 + 1) (by omega) H locs ls hM hS (lv_sub hl [2, 3, 4, 1, 0] (by subst ev_31; rfl))
          refine lv_if_ne (tgt := 55) hx hb dX4_lakes_32 (by decide) (fun c_24 => ?_) (fun c_24 => ?_)
          · refine lv_iconst (v := 1) hx hb dX4_lakes_55 (by decide) ?_
            refine lv_goto (tgt := 60) hx hb dX4_lakes_56 (by decide) ?_
            exact J_32 H locs _ hM hS (by first | (rw [if_neg c_24]) | rfl | (simp only [c_24, if_true, if_false, ite_true, ite_false, not_false_eq_true, reduceIte]))
          · refine lv_aload_n hx hb dX4_lakes_35 rfl (lv_at hl 0 rfl) ?_
            refine mm_get hcf hE hM 7 (by decide) q943 rfl rfl dX4_lakes_36 ?_
            refine lv_iload hx hb dX4_lakes_39 (lv_at hl 4 rfl) ?_
            refine mm_ald hcf hE hM 7 rfl (by decide) i_15 (by show _ < 25; omega) rfl dX4_lakes_41 ?_
            refine lv_iload_n hx hb dX4_lakes_42 rfl (lv_at hl 2 rfl) ?_
            refine lv_icmp_ne (tgt := 59) hx hb dX4_lakes_43 (by decide) (fun c_25 => ?_) (fun c_25 => ?_)
            · refine lv_iconst (v := 0) hx hb dX4_lakes_59 (by decide) ?_
              exact J_32 H locs _ hM hS (by first | (rw [if_pos c_24, if_neg c_25]) | rfl | (simp only [c_24, c_25, if_true, if_false, ite_true, ite_false, not_false_eq_true, reduceIte]))
            · refine lv_aload_n hx hb dX4_lakes_46 rfl (lv_at hl 0 rfl) ?_
              refine lv_iload hx hb dX4_lakes_47 (lv_at hl 4 rfl) ?_
              refine m_cpi (m_rV (As := [.int (nI i_15)]) (rest := []) hcf (k_X4_isLake l g A ad x_5 i_15 (by omega)) (cwV 1 hts (lw_V q1074 q1076 qs20 q41 q1077) rfl rfl rfl (by decide +kernel) ⟨Nat.le_of_ble_eq_true rfl, Nat.le_of_ble_eq_true rfl⟩) hE hA hM hS 30 0 (mwM_o g ad _) (ci := 1) rfl rfl hl.1 rfl (Nat.le_of_ble_eq_true rfl) dX4_lakes_49 ⟨Nat.le_of_ble_eq_true rfl, Nat.le_of_ble_eq_true rfl⟩) hS (fun H locs hM hS => ?_)
              refine lv_if_eq (tgt := 59) hx hb dX4_lakes_52 (by decide) (fun c_29 => ?_) (fun c_29 => ?_)
              · refine lv_iconst (v := 0) hx hb dX4_lakes_59 (by decide) ?_
                exact J_32 H locs _ hM hS (by first | (rw [if_pos c_24, if_pos c_25, if_pos c_29]) | rfl | (simp only [c_24, c_25, c_29, if_true, if_false, ite_true, ite_false, not_false_eq_true, reduceIte]))
              · refine lv_iconst (v := 1) hx hb dX4_lakes_55 (by decide) ?_
                refine lv_goto (tgt := 60) hx hb dX4_lakes_56 (by decide) ?_
                exact J_32 H locs _ hM hS (by first | (rw [if_pos c_24, if_pos c_25, if_neg c_29]) | rfl | (simp only [c_24, c_25, c_29, if_true, if_false, ite_true, ite_false, not_false_eq_true, reduceIte]))
      exact L_15 (25) 0 (by omega) H locs ls hM hS (lv_sub hl [2, 3, 4, 1, 0] rfl)
  exact L_10 (25) 0 (by omega) H locs ls hM hS (lv_sub hl [2, 1, 0] rfl)

def why_houseOf (x : St) (a0 a1 : Int32) : Int32 := (if (inF a0 0 (nI (nt x 13 0) - 1)) = 0 then 1 else (if (inF a1 0 4) = 0 then 2 else 0) : Int32)
abbrev rm_X4_houseOf_no : Room := { frames := 2, cells := 0, slots := 0, locals := 43 }
set_option maxHeartbeats 400000 in
theorem k_X4_houseOf_no (l : Launch) (g : GG) (A : Nat → Prop) (ad : Nat → Nat → Nat) (x : St) (hok : okM x) (a0 a1 : Int32) (w : Int32) (hw : why_houseOf x a0 a1 = w) (hw0 : ¬ w = 0) : Met l yX4_houseOf (ws_ yX4_houseOf cX4_houseOf 3 (some .int)) rm_X4_houseOf_no (va_Pc [.ref (ad 30 0), .int a0, .int a1] (mPre g A (mwM g ad x))) (pQi g A 0 (mwM g ad (sI x 0 0 w))) 0 0 A := by
  refine m_start RX4 rfl (by decide) (Nat.le_of_ble_eq_true rfl) ?_
  intro p e s m args below meth c hcf hr hlk hnm hE hA H locs hM hS ls hl
  have hx := hcf.1
  have hb := hcf.2.1
  have hml := hcf.2.2.1
  have hown := hcf.2.2.2.1
  have hts := hcf.2.2.2.2
  have hl : lv_has ls 3 [(0, .ref (ad 30 0)), (1, .int a0), (2, .int a1)] := hl
  generalize hQ : MQ below (pQi g A 0 (mwM g ad (sI x 0 0 w))) args s 0 0 A = Q
  refine lv_aload_n hx hb dX4_houseOf_0 rfl (lv_at hl 0 rfl) ?_
  refine lv_aload_n hx hb dX4_houseOf_1 rfl (lv_at hl 0 rfl) ?_
  refine lv_iload_n hx hb dX4_houseOf_2 rfl (lv_at hl 1 rfl) ?_
  refine m_cpi (m_rV (As := [.int a0]) (rest := [.ref (ad 30 0)]) hcf (k_X4_isHouse l g A ad x hok a0) (cwV 1 hts (lw_V q1137 q1139 qs29 q41 q1140) rfl rfl rfl (by decide +kernel) ⟨Nat.le_of_ble_eq_true rfl, Nat.le_of_ble_eq_true rfl⟩) hE hA hM hS 30 0 (mwM_o g ad _) (ci := 1) rfl rfl hl.1 rfl (Nat.le_of_ble_eq_true rfl) dX4_houseOf_3 ⟨Nat.le_of_ble_eq_true rfl, Nat.le_of_ble_eq_true rfl⟩) hS (fun H locs hM hS => ?_)
  have J_11 : ∀ (H : Heap) (locs : List Loc) (v_9 : Int32), mW g.1 A (mwM g ad x) H → va_S A s.heap H locs → ((if (inF a0 0 (nI (nt x 13 0) - 1)) = 0 then 1 else (if (inF a1 0 4) = 0 then 2 else 0)) = v_9) → W p l e rm_X4_houseOf_no s m args below meth c H locs 0 0 Q (F0 m 27 ls [.int v_9, .ref (ad 30 0)]) := by
    intro H locs v_9 hM hS ev_10
    refine m_topI (y := w) ((by subst ev_10; exact hw)) ?_
    refine m_cpi (m_rV (As := [.int w]) (rest := []) hcf (k_X4_refused l g A ad x w) (cwV 1 hts (lw_V q1047 q1049 qs16 q41 q1050) rfl rfl rfl (by decide +kernel) ⟨Nat.le_of_ble_eq_true rfl, Nat.le_of_ble_eq_true rfl⟩) hE hA hM hS 30 0 (mwM_o g ad _) (ci := 1) rfl rfl hl.1 rfl (Nat.le_of_ble_eq_true rfl) dX4_houseOf_27 ⟨Nat.le_of_ble_eq_true rfl, Nat.le_of_ble_eq_true rfl⟩) hS (fun H locs hM hS => ?_)
    obtain ⟨x_14, ex_15⟩ : ∃ z : St, sI x 0 0 w = z := ⟨_, rfl⟩
    rw [ex_15] at hM
    refine lv_if_eq (tgt := 35) hx hb dX4_houseOf_30 (by decide) (fun c9 => absurd c9 (refF_ne hw0)) (fun _ => ?_)
    refine lv_iconst (v := 0) hx hb dX4_houseOf_33 (by decide) ?_
    rw [← hQ]
    exact m_iret () hx hb hr rfl hlk (by have hF : x_14 = sI x 0 0 w := (by subst ex_15 ev_10; first | rfl); rw [← hF]; exact hM) hS (by subst ex_15 ev_10; first | rfl) (by first | decide | omega) (by first | decide | omega) dX4_houseOf_34
  refine lv_if_ne (tgt := 13) hx hb dX4_houseOf_6 (by decide) (fun c_4 => ?_) (fun c_4 => ?_)
  · refine lv_iload_n hx hb dX4_houseOf_13 rfl (lv_at hl 2 rfl) ?_
    refine lv_iconst (v := 0) hx hb dX4_houseOf_14 (by decide) ?_
    refine lv_iconst (v := 4) hx hb dX4_houseOf_15 (by decide) ?_
    refine m_cpi (m_rS (As := [.int a1, .int 0, .int 4]) (rest := [.ref (ad 30 0)]) hcf (k_X4_within l g A (mwM g ad x) a1 0 4) (va_cwS 3 hts (lw_S q1044 q1045 q41 q1046) rfl rfl rfl (by decide +kernel) ⟨Nat.le_of_ble_eq_true rfl, Nat.le_of_ble_eq_true rfl⟩) hE hA hM hS rfl hl.1 rfl (Nat.le_of_ble_eq_true rfl) dX4_houseOf_16 ⟨Nat.le_of_ble_eq_true rfl, Nat.le_of_ble_eq_true rfl⟩) hS (fun H locs hM hS => ?_)
    refine lv_if_ne (tgt := 26) hx hb dX4_houseOf_19 (by decide) (fun c_8 => ?_) (fun c_8 => ?_)
    · refine lv_iconst (v := 0) hx hb dX4_houseOf_26 (by decide) ?_
      exact J_11 H locs _ hM hS (by first | (rw [if_neg c_4, if_neg c_8]) | rfl | (simp only [c_4, c_8, if_true, if_false, ite_true, ite_false, not_false_eq_true, reduceIte]))
    · refine lv_iconst (v := 2) hx hb dX4_houseOf_22 (by decide) ?_
      refine lv_goto (tgt := 27) hx hb dX4_houseOf_23 (by decide) ?_
      exact J_11 H locs _ hM hS (by first | (rw [if_neg c_4, if_pos c_8]) | rfl | (simp only [c_4, c_8, if_true, if_false, ite_true, ite_false, not_false_eq_true, reduceIte]))
  · refine lv_iconst (v := 1) hx hb dX4_houseOf_9 (by decide) ?_
    refine lv_goto (tgt := 27) hx hb dX4_houseOf_10 (by decide) ?_
    exact J_11 H locs _ hM hS (by first | (rw [if_pos c_4]) | rfl | (simp only [c_4, if_true, if_false, ite_true, ite_false, not_false_eq_true, reduceIte]))


def why_houseOf_k (a1 : Int32) : Int32 := (if (inF a1 0 4) = 0 then 2 else 0 : Int32)
abbrev rm_X4_houseOf_ok : Room := { frames := 2, cells := 0, slots := 0, locals := 47 }
set_option maxHeartbeats 400000 in
theorem k_X4_houseOf_ok (l : Launch) (g : GG) (A : Nat → Prop) (ad : Nat → Nat → Nat) (x : St) (hok : okM x) (h : Nat) (hh : h < nt x 13 0) (hbu : nt x 18 h ≤ nt x 1 0) (a1 : Int32) (hw : why_houseOf_k a1 = 0) : Met l yX4_houseOf (ws_ yX4_houseOf cX4_houseOf 3 (some .int)) rm_X4_houseOf_ok (va_Pc [.ref (ad 30 0), .int (nI h), .int a1] (mPre g A (mwM g ad x))) (pQi g A (hofF (sI x 0 0 0) h a1) (mwM g ad (sI x 0 0 0))) 0 0 A := by
  refine m_start RX4 rfl (by decide) (Nat.le_of_ble_eq_true rfl) ?_
  intro p e s m args below meth c hcf hr hlk hnm hE hA H locs hM hS ls hl
  have hx := hcf.1
  have hb := hcf.2.1
  have hml := hcf.2.2.1
  have hown := hcf.2.2.2.1
  have hts := hcf.2.2.2.2
  have hl : lv_has ls 3 [(0, .ref (ad 30 0)), (1, .int (nI h)), (2, .int a1)] := hl
  have hb13 : nt x 13 0 < 11 := hok.h13.2
  have hb19 : nt x 19 0 < 11 := hok.h19.2
  have hb24 : nt x 24 0 < 41 := hok.h24.2
  have hb1 : nt x 1 0 < 601 := hok.h1.2
  generalize hQ : MQ below (pQi g A (hofF (sI x 0 0 0) h a1) (mwM g ad (sI x 0 0 0))) args s 0 0 A = Q
  refine lv_aload_n hx hb dX4_houseOf_0 rfl (lv_at hl 0 rfl) ?_
  refine lv_aload_n hx hb dX4_houseOf_1 rfl (lv_at hl 0 rfl) ?_
  refine lv_iload_n hx hb dX4_houseOf_2 rfl (lv_at hl 1 rfl) ?_
  refine m_cpi (m_rV (As := [.int (nI h)]) (rest := [.ref (ad 30 0)]) hcf (k_X4_isHouse l g A ad x hok (nI h)) (cwV 1 hts (lw_V q1137 q1139 qs29 q41 q1140) rfl rfl rfl (by decide +kernel) ⟨Nat.le_of_ble_eq_true rfl, Nat.le_of_ble_eq_true rfl⟩) hE hA hM hS 30 0 (mwM_o g ad _) (ci := 1) rfl rfl hl.1 rfl (Nat.le_of_ble_eq_true rfl) dX4_houseOf_3 ⟨Nat.le_of_ble_eq_true rfl, Nat.le_of_ble_eq_true rfl⟩) hS (fun H locs hM hS => ?_)
  refine m_topI (y := 1) (inF_cnt hh (by omega)) ?_
  refine lv_if_ne (tgt := 13) hx hb dX4_houseOf_6 (by decide) (fun _ => ?_) (fun c9 => absurd c9 (by decide))
  refine lv_iload_n hx hb dX4_houseOf_13 rfl (lv_at hl 2 rfl) ?_
  refine lv_iconst (v := 0) hx hb dX4_houseOf_14 (by decide) ?_
  refine lv_iconst (v := 4) hx hb dX4_houseOf_15 (by decide) ?_
  refine m_cpi (m_rS (As := [.int a1, .int 0, .int 4]) (rest := [.ref (ad 30 0)]) hcf (k_X4_within l g A (mwM g ad x) a1 0 4) (va_cwS 3 hts (lw_S q1044 q1045 q41 q1046) rfl rfl rfl (by decide +kernel) ⟨Nat.le_of_ble_eq_true rfl, Nat.le_of_ble_eq_true rfl⟩) hE hA hM hS rfl hl.1 rfl (Nat.le_of_ble_eq_true rfl) dX4_houseOf_16 ⟨Nat.le_of_ble_eq_true rfl, Nat.le_of_ble_eq_true rfl⟩) hS (fun H locs hM hS => ?_)
  have J_10 : ∀ (v_8 : Int32), ((if (inF a1 0 4) = 0 then 2 else 0) = v_8) → W p l e rm_X4_houseOf_ok s m args below meth c H locs 0 0 Q (F0 m 27 ls [.int v_8, .ref (ad 30 0)]) := by
    intro v_8 ev_9
    refine m_topI (y := 0) ((by subst ev_9; exact hw)) ?_
    refine m_cpi (m_rV (As := [.int 0]) (rest := []) hcf (k_X4_refused l g A ad x 0) (cwV 1 hts (lw_V q1047 q1049 qs16 q41 q1050) rfl rfl rfl (by decide +kernel) ⟨Nat.le_of_ble_eq_true rfl, Nat.le_of_ble_eq_true rfl⟩) hE hA hM hS 30 0 (mwM_o g ad _) (ci := 1) rfl rfl hl.1 rfl (Nat.le_of_ble_eq_true rfl) dX4_houseOf_27 ⟨Nat.le_of_ble_eq_true rfl, Nat.le_of_ble_eq_true rfl⟩) hS (fun H locs hM hS => ?_)
    obtain ⟨x_13, ex_14⟩ : ∃ z : St, sI x 0 0 0 = z := ⟨_, rfl⟩
    rw [ex_14] at hM
    refine m_topI (y := 0) (by decide) ?_
    refine lv_if_eq (tgt := 35) hx hb dX4_houseOf_30 (by decide) (fun _ => ?_) (fun c9 => absurd (by decide) c9)
    refine lv_iload_n hx hb dX4_houseOf_35 rfl (lv_at hl 2 rfl) ?_
    refine lv_iconst (v := 2) hx hb dX4_houseOf_36 (by decide) ?_
    refine lv_icmp_ge (tgt := 60) hx hb dX4_houseOf_37 (by decide) (fun c_16 => ?_) (fun c_16 => ?_)
    · refine lv_iload_n hx hb dX4_houseOf_60 rfl (lv_at hl 2 rfl) ?_
      refine lv_iconst (v := 2) hx hb dX4_houseOf_61 (by decide) ?_
      have J_24 : ∀ (H : Heap) (locs : List Loc) (v_22 : Int32), mW g.1 A (mwM g ad x_13) H → va_S A s.heap H locs → ((if a1 = 2 then (x_13.1 17 h) else (if a1 = 3 then (x_13.1 18 h) else (worF x_13 h))) = v_22) → W p l e rm_X4_houseOf_ok s m args below meth c H locs 0 0 Q (F0 m 93 ls [.int v_22]) := by
        intro H locs v_22 hM hS ev_23
        rw [← hQ]
        exact m_iret () hx hb hr rfl hlk (by have hF : x_13 = sI x 0 0 0 := (by subst ev_23 ex_14 ev_9; first | (unfold hofF; rw [if_pos c_16] <;> rfl) | rfl | (unfold hofF; rfl) | (unfold hofF; simp only [c_16, if_true, if_false, ite_true, ite_false, not_false_eq_true, reduceIte] <;> rfl) | (rw [if_pos c_16] <;> rfl)); rw [← hF]; exact hM) hS (by subst ev_23 ex_14 ev_9; first | (unfold hofF; rw [if_pos c_16] <;> rfl) | rfl | (unfold hofF; rfl) | (unfold hofF; simp only [c_16, if_true, if_false, ite_true, ite_false, not_false_eq_true, reduceIte] <;> rfl) | (rw [if_pos c_16] <;> rfl)) (by first | decide | omega) (by first | decide | omega) dX4_houseOf_93
      refine lv_icmp_ne (tgt := 74) hx hb dX4_houseOf_62 (by decide) (fun c_17 => ?_) (fun c_17 => ?_)
      · refine lv_iload_n hx hb dX4_houseOf_74 rfl (lv_at hl 2 rfl) ?_
        refine lv_iconst (v := 3) hx hb dX4_houseOf_75 (by decide) ?_
        refine lv_icmp_ne (tgt := 88) hx hb dX4_houseOf_76 (by decide) (fun c_18 => ?_) (fun c_18 => ?_)
        · refine lv_aload_n hx hb dX4_houseOf_88 rfl (lv_at hl 0 rfl) ?_
          refine lv_iload_n hx hb dX4_houseOf_89 rfl (lv_at hl 1 rfl) ?_
          refine m_cpi (m_rV (As := [.int (nI h)]) (rest := []) hcf (k_X4_worth l g A ad x_13 (by subst ex_14 ev_9; exact ok_r0 hok 0) h (by omega) (by subst ex_14 ev_9; exact hbu)) (cwV 1 hts (lw_V q1141 q1143 qs30 q41 q1144) rfl rfl rfl (by decide +kernel) ⟨Nat.le_of_ble_eq_true rfl, Nat.le_of_ble_eq_true rfl⟩) hE hA hM hS 30 0 (mwM_o g ad _) (ci := 1) rfl rfl hl.1 rfl (Nat.le_of_ble_eq_true rfl) dX4_houseOf_90 ⟨Nat.le_of_ble_eq_true rfl, Nat.le_of_ble_eq_true rfl⟩) hS (fun H locs hM hS => ?_)
          exact J_24 H locs _ hM hS (by first | (rw [if_neg c_17, if_neg c_18]) | rfl | (simp only [c_17, c_18, if_true, if_false, ite_true, ite_false, not_false_eq_true, reduceIte]))
        · refine lv_aload_n hx hb dX4_houseOf_79 rfl (lv_at hl 0 rfl) ?_
          refine mm_get hcf hE hM 18 (by decide) q954 rfl rfl dX4_houseOf_80 ?_
          refine lv_iload_n hx hb dX4_houseOf_83 rfl (lv_at hl 1 rfl) ?_
          refine mm_ald hcf hE hM 18 rfl (by decide) h (by show _ < 10; omega) rfl dX4_houseOf_84 ?_
          refine lv_goto (tgt := 93) hx hb dX4_houseOf_85 (by decide) ?_
          exact J_24 H locs _ hM hS (by first | (rw [if_neg c_17, if_pos c_18]) | rfl | (simp only [c_17, c_18, if_true, if_false, ite_true, ite_false, not_false_eq_true, reduceIte]))
      · refine lv_aload_n hx hb dX4_houseOf_65 rfl (lv_at hl 0 rfl) ?_
        refine mm_get hcf hE hM 17 (by decide) q953 rfl rfl dX4_houseOf_66 ?_
        refine lv_iload_n hx hb dX4_houseOf_69 rfl (lv_at hl 1 rfl) ?_
        refine mm_ald hcf hE hM 17 rfl (by decide) h (by show _ < 10; omega) rfl dX4_houseOf_70 ?_
        refine lv_goto (tgt := 93) hx hb dX4_houseOf_71 (by decide) ?_
        exact J_24 H locs _ hM hS (by first | (rw [if_pos c_17]) | rfl | (simp only [c_17, if_true, if_false, ite_true, ite_false, not_false_eq_true, reduceIte]))
    · refine lv_iload_n hx hb dX4_houseOf_40 rfl (lv_at hl 2 rfl) ?_
      have J_28 : ∀ (v_26 : Int32), ((if a1 = 0 then (x_13.1 14 h) else (x_13.1 15 h)) = v_26) → W p l e rm_X4_houseOf_ok s m args below meth c H locs 0 0 Q (F0 m 59 ls [.int v_26]) := by
        intro v_26 ev_27
        rw [← hQ]
        exact m_iret () hx hb hr rfl hlk (by have hF : x_13 = sI x 0 0 0 := (by subst ev_27 ex_14 ev_9; first | (unfold hofF; rw [if_neg c_16] <;> rfl) | rfl | (unfold hofF; rfl) | (unfold hofF; simp only [c_16, if_true, if_false, ite_true, ite_false, not_false_eq_true, reduceIte] <;> rfl) | (rw [if_neg c_16] <;> rfl)); rw [← hF]; exact hM) hS (by subst ev_27 ex_14 ev_9; first | (unfold hofF; rw [if_neg c_16] <;> rfl) | rfl | (unfold hofF; rfl) | (unfold hofF; simp only [c_16, if_true, if_false, ite_true, ite_false, not_false_eq_true, reduceIte] <;> rfl) | (rw [if_neg c_16] <;> rfl)) (by first | decide | omega) (by first | decide | omega) dX4_houseOf_59
      refine lv_if_ne (tgt := 53) hx hb dX4_houseOf_41 (by decide) (fun c_25 => ?_) (fun c_25 => ?_)
      · refine lv_aload_n hx hb dX4_houseOf_53 rfl (lv_at hl 0 rfl) ?_
        refine mm_get hcf hE hM 15 (by decide) q951 rfl rfl dX4_houseOf_54 ?_
        refine lv_iload_n hx hb dX4_houseOf_57 rfl (lv_at hl 1 rfl) ?_
        refine mm_ald hcf hE hM 15 rfl (by decide) h (by show _ < 10; omega) rfl dX4_houseOf_58 ?_
        exact J_28 _ (by first | (rw [if_neg c_25]) | rfl | (simp only [c_25, if_true, if_false, ite_true, ite_false, not_false_eq_true, reduceIte]))
      · refine lv_aload_n hx hb dX4_houseOf_44 rfl (lv_at hl 0 rfl) ?_
        refine mm_get hcf hE hM 14 (by decide) q950 rfl rfl dX4_houseOf_45 ?_
        refine lv_iload_n hx hb dX4_houseOf_48 rfl (lv_at hl 1 rfl) ?_
        refine mm_ald hcf hE hM 14 rfl (by decide) h (by show _ < 10; omega) rfl dX4_houseOf_49 ?_
        refine lv_goto (tgt := 59) hx hb dX4_houseOf_50 (by decide) ?_
        exact J_28 _ (by first | (rw [if_pos c_25]) | rfl | (simp only [c_25, if_true, if_false, ite_true, ite_false, not_false_eq_true, reduceIte]))
  refine lv_if_ne (tgt := 26) hx hb dX4_houseOf_19 (by decide) (fun c_7 => ?_) (fun c_7 => ?_)
  · refine lv_iconst (v := 0) hx hb dX4_houseOf_26 (by decide) ?_
    exact J_10 _ (by first | (rw [if_neg c_7]) | rfl | (simp only [c_7, if_true, if_false, ite_true, ite_false, not_false_eq_true, reduceIte]))
  · refine lv_iconst (v := 2) hx hb dX4_houseOf_22 (by decide) ?_
    refine lv_goto (tgt := 27) hx hb dX4_houseOf_23 (by decide) ?_
    exact J_10 _ (by first | (rw [if_pos c_7]) | rfl | (simp only [c_7, if_true, if_false, ite_true, ite_false, not_false_eq_true, reduceIte]))


def why_reading_a  : Int32 := 1
abbrev rm_X4_reading_na : Room := { frames := 1, cells := 0, slots := 0, locals := 22 }
set_option maxHeartbeats 400000 in
theorem k_X4_reading_na (l : Launch) (g : GG) (A : Nat → Prop) (ad : Nat → Nat → Nat) (x : St) (hok : okM x) (a0 a1 a2 : Int32) (h0 : inF a0 0 (nI (nt x 19 0) - 1) = 0) (w : Int32) (hw : why_reading_a  = w) (hw0 : ¬ w = 0) : Met l yX4_reading (ws_ yX4_reading cX4_reading 5 (some .int)) rm_X4_reading_na (va_Pc [.ref (ad 30 0), .int a0, .int a1, .int a2] (mPre g A (mwM g ad x))) (pQi g A 0 (mwM g ad (sI x 0 0 w))) 0 0 A := by
  refine m_start RX4 rfl (by decide) (Nat.le_of_ble_eq_true rfl) ?_
  intro p e s m args below meth c hcf hr hlk hnm hE hA H locs hM hS ls hl
  have hx := hcf.1
  have hb := hcf.2.1
  have hml := hcf.2.2.1
  have hown := hcf.2.2.2.1
  have hts := hcf.2.2.2.2
  have hl : lv_has ls 5 [(0, .ref (ad 30 0)), (1, .int a0), (2, .int a1), (3, .int a2)] := hl
  generalize hQ : MQ below (pQi g A 0 (mwM g ad (sI x 0 0 w))) args s 0 0 A = Q
  refine lv_iload_n hx hb dX4_reading_0 rfl (lv_at hl 1 rfl) ?_
  refine lv_iconst (v := 0) hx hb dX4_reading_1 (by decide) ?_
  refine lv_aload_n hx hb dX4_reading_2 rfl (lv_at hl 0 rfl) ?_
  refine mm_get hcf hE hM 19 (by decide) q955 rfl rfl dX4_reading_3 ?_
  refine m_topI (y := nI (nt x 19 0)) ((by exact hok.h19.1)) ?_
  refine lv_iconst (v := 1) hx hb dX4_reading_6 (by decide) ?_
  refine lv_isub hx hb dX4_reading_7 ?_
  refine m_cpi (m_rS (As := [.int a0, .int 0, .int ((nI (nt x 19 0)) - 1)]) (rest := []) hcf (k_X4_within l g A (mwM g ad x) a0 0 ((nI (nt x 19 0)) - 1)) (va_cwS 3 hts (lw_S q1044 q1045 q41 q1046) rfl rfl rfl (by decide +kernel) ⟨Nat.le_of_ble_eq_true rfl, Nat.le_of_ble_eq_true rfl⟩) hE hA hM hS rfl hl.1 rfl (Nat.le_of_ble_eq_true rfl) dX4_reading_8 ⟨Nat.le_of_ble_eq_true rfl, Nat.le_of_ble_eq_true rfl⟩) hS (fun H locs hM hS => ?_)
  refine m_topI (y := 0) (h0) ?_
  refine lv_if_eq (tgt := 46) hx hb dX4_reading_11 (by decide) (fun _ => ?_) (fun c9 => absurd (by decide) c9)
  refine lv_iconst (v := 0) hx hb dX4_reading_46 (by decide) ?_
  refine lv_istore (lv' := [(4, .int 0), (0, .ref (ad 30 0)), (1, .int a0), (2, .int a1), (3, .int a2)]) hx hb dX4_reading_47 hl (by decide) rfl (fun ls hl => ?_)
  refine lv_aload_n hx hb dX4_reading_49 rfl (lv_at hl 1 rfl) ?_
  refine lv_iload hx hb dX4_reading_50 (lv_at hl 0 rfl) ?_
  refine lv_if_eq (tgt := 59) hx hb dX4_reading_52 (by decide) (fun _ => ?_) (fun c9 => absurd (by decide) c9)
  refine lv_iconst (v := 1) hx hb dX4_reading_59 (by decide) ?_
  refine m_topI (y := w) (hw) ?_
  refine m_cpi (m_rV (As := [.int w]) (rest := []) hcf (k_X4_refused l g A ad x w) (cwV 1 hts (lw_V q1047 q1049 qs16 q41 q1050) rfl rfl rfl (by decide +kernel) ⟨Nat.le_of_ble_eq_true rfl, Nat.le_of_ble_eq_true rfl⟩) hE hA hM hS 30 0 (mwM_o g ad _) (ci := 1) rfl rfl hl.1 rfl (Nat.le_of_ble_eq_true rfl) dX4_reading_60 ⟨Nat.le_of_ble_eq_true rfl, Nat.le_of_ble_eq_true rfl⟩) hS (fun H locs hM hS => ?_)
  obtain ⟨x_7, ex_8⟩ : ∃ z : St, sI x 0 0 w = z := ⟨_, rfl⟩
  rw [ex_8] at hM
  refine lv_if_eq (tgt := 70) hx hb dX4_reading_63 (by decide) (fun c9 => absurd c9 (refF_ne hw0)) (fun _ => ?_)
  refine lv_iconst (v := 0) hx hb dX4_reading_66 (by decide) ?_
  refine lv_goto (tgt := 86) hx hb dX4_reading_67 (by decide) ?_
  rw [← hQ]
  exact m_iret () hx hb hr rfl hlk (by have hF : x_7 = sI x 0 0 w := (by subst ex_8; first | rfl); rw [← hF]; exact hM) hS (by subst ex_8; first | rfl) (by first | decide | omega) (by first | decide | omega) dX4_reading_86


def why_reading_b  : Int32 := 1
abbrev rm_X4_reading_nb : Room := { frames := 1, cells := 0, slots := 0, locals := 22 }
set_option maxHeartbeats 400000 in
theorem k_X4_reading_nb (l : Launch) (g : GG) (A : Nat → Prop) (ad : Nat → Nat → Nat) (x : St) (hok : okM x) (b : Nat) (hbo : b < nt x 19 0) (a1 a2 : Int32) (h1 : inF a2 0 4 = 0) (w : Int32) (hw : why_reading_b  = w) (hw0 : ¬ w = 0) : Met l yX4_reading (ws_ yX4_reading cX4_reading 5 (some .int)) rm_X4_reading_nb (va_Pc [.ref (ad 30 0), .int (nI b), .int a1, .int a2] (mPre g A (mwM g ad x))) (pQi g A 0 (mwM g ad (sI x 0 0 w))) 0 0 A := by
  refine m_start RX4 rfl (by decide) (Nat.le_of_ble_eq_true rfl) ?_
  intro p e s m args below meth c hcf hr hlk hnm hE hA H locs hM hS ls hl
  have hx := hcf.1
  have hb := hcf.2.1
  have hml := hcf.2.2.1
  have hown := hcf.2.2.2.1
  have hts := hcf.2.2.2.2
  have hl : lv_has ls 5 [(0, .ref (ad 30 0)), (1, .int (nI b)), (2, .int a1), (3, .int a2)] := hl
  have hb13 : nt x 13 0 < 11 := hok.h13.2
  have hb19 : nt x 19 0 < 11 := hok.h19.2
  have hb24 : nt x 24 0 < 41 := hok.h24.2
  have hb1 : nt x 1 0 < 601 := hok.h1.2
  generalize hQ : MQ below (pQi g A 0 (mwM g ad (sI x 0 0 w))) args s 0 0 A = Q
  refine lv_iload_n hx hb dX4_reading_0 rfl (lv_at hl 1 rfl) ?_
  refine lv_iconst (v := 0) hx hb dX4_reading_1 (by decide) ?_
  refine lv_aload_n hx hb dX4_reading_2 rfl (lv_at hl 0 rfl) ?_
  refine mm_get hcf hE hM 19 (by decide) q955 rfl rfl dX4_reading_3 ?_
  refine m_topI (y := nI (nt x 19 0)) ((by exact hok.h19.1)) ?_
  refine lv_iconst (v := 1) hx hb dX4_reading_6 (by decide) ?_
  refine lv_isub hx hb dX4_reading_7 ?_
  refine m_cpi (m_rS (As := [.int (nI b), .int 0, .int ((nI (nt x 19 0)) - 1)]) (rest := []) hcf (k_X4_within l g A (mwM g ad x) (nI b) 0 ((nI (nt x 19 0)) - 1)) (va_cwS 3 hts (lw_S q1044 q1045 q41 q1046) rfl rfl rfl (by decide +kernel) ⟨Nat.le_of_ble_eq_true rfl, Nat.le_of_ble_eq_true rfl⟩) hE hA hM hS rfl hl.1 rfl (Nat.le_of_ble_eq_true rfl) dX4_reading_8 ⟨Nat.le_of_ble_eq_true rfl, Nat.le_of_ble_eq_true rfl⟩) hS (fun H locs hM hS => ?_)
  refine m_topI (y := 1) (inF_cnt hbo (by omega)) ?_
  refine lv_if_eq (tgt := 46) hx hb dX4_reading_11 (by decide) (fun c9 => absurd c9 (by decide)) (fun _ => ?_)
  refine lv_iload_n hx hb dX4_reading_14 rfl (lv_at hl 3 rfl) ?_
  refine lv_iconst (v := 0) hx hb dX4_reading_15 (by decide) ?_
  refine lv_iconst (v := 4) hx hb dX4_reading_16 (by decide) ?_
  refine m_cpi (m_rS (As := [.int a2, .int 0, .int 4]) (rest := []) hcf (k_X4_within l g A (mwM g ad x) a2 0 4) (va_cwS 3 hts (lw_S q1044 q1045 q41 q1046) rfl rfl rfl (by decide +kernel) ⟨Nat.le_of_ble_eq_true rfl, Nat.le_of_ble_eq_true rfl⟩) hE hA hM hS rfl hl.1 rfl (Nat.le_of_ble_eq_true rfl) dX4_reading_17 ⟨Nat.le_of_ble_eq_true rfl, Nat.le_of_ble_eq_true rfl⟩) hS (fun H locs hM hS => ?_)
  refine m_topI (y := 0) (h1) ?_
  refine lv_if_eq (tgt := 46) hx hb dX4_reading_20 (by decide) (fun _ => ?_) (fun c9 => absurd (by decide) c9)
  refine lv_iconst (v := 0) hx hb dX4_reading_46 (by decide) ?_
  refine lv_istore (lv' := [(4, .int 0), (0, .ref (ad 30 0)), (1, .int (nI b)), (2, .int a1), (3, .int a2)]) hx hb dX4_reading_47 hl (by decide) rfl (fun ls hl => ?_)
  refine lv_aload_n hx hb dX4_reading_49 rfl (lv_at hl 1 rfl) ?_
  refine lv_iload hx hb dX4_reading_50 (lv_at hl 0 rfl) ?_
  refine lv_if_eq (tgt := 59) hx hb dX4_reading_52 (by decide) (fun _ => ?_) (fun c9 => absurd (by decide) c9)
  refine lv_iconst (v := 1) hx hb dX4_reading_59 (by decide) ?_
  refine m_topI (y := w) (hw) ?_
  refine m_cpi (m_rV (As := [.int w]) (rest := []) hcf (k_X4_refused l g A ad x w) (cwV 1 hts (lw_V q1047 q1049 qs16 q41 q1050) rfl rfl rfl (by decide +kernel) ⟨Nat.le_of_ble_eq_true rfl, Nat.le_of_ble_eq_true rfl⟩) hE hA hM hS 30 0 (mwM_o g ad _) (ci := 1) rfl rfl hl.1 rfl (Nat.le_of_ble_eq_true rfl) dX4_reading_60 ⟨Nat.le_of_ble_eq_true rfl, Nat.le_of_ble_eq_true rfl⟩) hS (fun H locs hM hS => ?_)
  obtain ⟨x_10, ex_11⟩ : ∃ z : St, sI x 0 0 w = z := ⟨_, rfl⟩
  rw [ex_11] at hM
  refine lv_if_eq (tgt := 70) hx hb dX4_reading_63 (by decide) (fun c9 => absurd c9 (refF_ne hw0)) (fun _ => ?_)
  refine lv_iconst (v := 0) hx hb dX4_reading_66 (by decide) ?_
  refine lv_goto (tgt := 86) hx hb dX4_reading_67 (by decide) ?_
  rw [← hQ]
  exact m_iret () hx hb hr rfl hlk (by have hF : x_10 = sI x 0 0 w := (by subst ex_11; first | rfl); rw [← hF]; exact hM) hS (by subst ex_11; first | rfl) (by first | decide | omega) (by first | decide | omega) dX4_reading_86


def why_reading_c (x : St) (b : Nat) (a1 : Int32) : Int32 := (if (if (inF a1 (x.1 22 b) ((nI (nt x 1 0)) - 1)) = 0 then 0 else 1 : Int32) = 0 then 1 else 0 : Int32)
abbrev rm_X4_reading_nc : Room := { frames := 1, cells := 0, slots := 0, locals := 22 }
set_option maxHeartbeats 400000 in
theorem k_X4_reading_nc (l : Launch) (g : GG) (A : Nat → Prop) (ad : Nat → Nat → Nat) (x : St) (hok : okM x) (b : Nat) (hbo : b < nt x 19 0) (a1 : Int32) (n : Nat) (hn : n < 5) (w : Int32) (hw : why_reading_c x b a1 = w) (hw0 : ¬ w = 0) : Met l yX4_reading (ws_ yX4_reading cX4_reading 5 (some .int)) rm_X4_reading_nc (va_Pc [.ref (ad 30 0), .int (nI b), .int a1, .int (nI n)] (mPre g A (mwM g ad x))) (pQi g A 0 (mwM g ad (sI x 0 0 w))) 0 0 A := by
  refine m_start RX4 rfl (by decide) (Nat.le_of_ble_eq_true rfl) ?_
  intro p e s m args below meth c hcf hr hlk hnm hE hA H locs hM hS ls hl
  have hx := hcf.1
  have hb := hcf.2.1
  have hml := hcf.2.2.1
  have hown := hcf.2.2.2.1
  have hts := hcf.2.2.2.2
  have hl : lv_has ls 5 [(0, .ref (ad 30 0)), (1, .int (nI b)), (2, .int a1), (3, .int (nI n))] := hl
  have hb13 : nt x 13 0 < 11 := hok.h13.2
  have hb19 : nt x 19 0 < 11 := hok.h19.2
  have hb24 : nt x 24 0 < 41 := hok.h24.2
  have hb1 : nt x 1 0 < 601 := hok.h1.2
  generalize hQ : MQ below (pQi g A 0 (mwM g ad (sI x 0 0 w))) args s 0 0 A = Q
  refine lv_iload_n hx hb dX4_reading_0 rfl (lv_at hl 1 rfl) ?_
  refine lv_iconst (v := 0) hx hb dX4_reading_1 (by decide) ?_
  refine lv_aload_n hx hb dX4_reading_2 rfl (lv_at hl 0 rfl) ?_
  refine mm_get hcf hE hM 19 (by decide) q955 rfl rfl dX4_reading_3 ?_
  refine m_topI (y := nI (nt x 19 0)) ((by exact hok.h19.1)) ?_
  refine lv_iconst (v := 1) hx hb dX4_reading_6 (by decide) ?_
  refine lv_isub hx hb dX4_reading_7 ?_
  refine m_cpi (m_rS (As := [.int (nI b), .int 0, .int ((nI (nt x 19 0)) - 1)]) (rest := []) hcf (k_X4_within l g A (mwM g ad x) (nI b) 0 ((nI (nt x 19 0)) - 1)) (va_cwS 3 hts (lw_S q1044 q1045 q41 q1046) rfl rfl rfl (by decide +kernel) ⟨Nat.le_of_ble_eq_true rfl, Nat.le_of_ble_eq_true rfl⟩) hE hA hM hS rfl hl.1 rfl (Nat.le_of_ble_eq_true rfl) dX4_reading_8 ⟨Nat.le_of_ble_eq_true rfl, Nat.le_of_ble_eq_true rfl⟩) hS (fun H locs hM hS => ?_)
  refine m_topI (y := 1) (inF_cnt hbo (by omega)) ?_
  refine lv_if_eq (tgt := 46) hx hb dX4_reading_11 (by decide) (fun c9 => absurd c9 (by decide)) (fun _ => ?_)
  refine lv_iload_n hx hb dX4_reading_14 rfl (lv_at hl 3 rfl) ?_
  refine lv_iconst (v := 0) hx hb dX4_reading_15 (by decide) ?_
  refine lv_iconst (v := 4) hx hb dX4_reading_16 (by decide) ?_
  refine m_cpi (m_rS (As := [.int (nI n), .int 0, .int 4]) (rest := []) hcf (k_X4_within l g A (mwM g ad x) (nI n) 0 4) (va_cwS 3 hts (lw_S q1044 q1045 q41 q1046) rfl rfl rfl (by decide +kernel) ⟨Nat.le_of_ble_eq_true rfl, Nat.le_of_ble_eq_true rfl⟩) hE hA hM hS rfl hl.1 rfl (Nat.le_of_ble_eq_true rfl) dX4_reading_17 ⟨Nat.le_of_ble_eq_true rfl, Nat.le_of_ble_eq_true rfl⟩) hS (fun H locs hM hS => ?_)
  refine m_topI (y := 1) (inF_lay hn) ?_
  refine lv_if_eq (tgt := 46) hx hb dX4_reading_20 (by decide) (fun c9 => absurd c9 (by decide)) (fun _ => ?_)
  refine lv_iload_n hx hb dX4_reading_23 rfl (lv_at hl 2 rfl) ?_
  refine lv_aload_n hx hb dX4_reading_24 rfl (lv_at hl 0 rfl) ?_
  refine mm_get hcf hE hM 22 (by decide) q958 rfl rfl dX4_reading_25 ?_
  refine lv_iload_n hx hb dX4_reading_28 rfl (lv_at hl 1 rfl) ?_
  refine mm_ald hcf hE hM 22 rfl (by decide) b (by show _ < 10; omega) rfl dX4_reading_29 ?_
  refine lv_aload_n hx hb dX4_reading_30 rfl (lv_at hl 0 rfl) ?_
  refine mm_get hcf hE hM 1 (by decide) q937 rfl rfl dX4_reading_31 ?_
  refine m_topI (y := nI (nt x 1 0)) ((by exact hok.h1.1)) ?_
  refine lv_iconst (v := 1) hx hb dX4_reading_34 (by decide) ?_
  refine lv_isub hx hb dX4_reading_35 ?_
  refine m_cpi (m_rS (As := [.int a1, .int (x.1 22 b), .int ((nI (nt x 1 0)) - 1)]) (rest := []) hcf (k_X4_within l g A (mwM g ad x) a1 (x.1 22 b) ((nI (nt x 1 0)) - 1)) (va_cwS 3 hts (lw_S q1044 q1045 q41 q1046) rfl rfl rfl (by decide +kernel) ⟨Nat.le_of_ble_eq_true rfl, Nat.le_of_ble_eq_true rfl⟩) hE hA hM hS rfl hl.1 rfl (Nat.le_of_ble_eq_true rfl) dX4_reading_36 ⟨Nat.le_of_ble_eq_true rfl, Nat.le_of_ble_eq_true rfl⟩) hS (fun H locs hM hS => ?_)
  have J_13 : ∀ (v_11 : Int32), ((if (inF a1 (x.1 22 b) ((nI (nt x 1 0)) - 1)) = 0 then 0 else 1) = v_11) → W p l e rm_X4_reading_nc s m args below meth c H locs 0 0 Q (F0 m 47 ls [.int v_11]) := by
    intro v_11 ev_12
    refine lv_istore (lv' := [(4, .int v_11), (0, .ref (ad 30 0)), (1, .int (nI b)), (2, .int a1), (3, .int (nI n))]) hx hb dX4_reading_47 hl (by decide) rfl (fun ls hl => ?_)
    refine lv_aload_n hx hb dX4_reading_49 rfl (lv_at hl 1 rfl) ?_
    refine lv_iload hx hb dX4_reading_50 (lv_at hl 0 rfl) ?_
    have J_18 : ∀ (v_16 : Int32), ((if v_11 = 0 then 1 else 0) = v_16) → W p l e rm_X4_reading_nc s m args below meth c H locs 0 0 Q (F0 m 60 ls [.int v_16, .ref (ad 30 0)]) := by
      intro v_16 ev_17
      refine m_topI (y := w) ((by subst ev_17 ev_12; exact hw)) ?_
      refine m_cpi (m_rV (As := [.int w]) (rest := []) hcf (k_X4_refused l g A ad x w) (cwV 1 hts (lw_V q1047 q1049 qs16 q41 q1050) rfl rfl rfl (by decide +kernel) ⟨Nat.le_of_ble_eq_true rfl, Nat.le_of_ble_eq_true rfl⟩) hE hA hM hS 30 0 (mwM_o g ad _) (ci := 1) rfl rfl hl.1 rfl (Nat.le_of_ble_eq_true rfl) dX4_reading_60 ⟨Nat.le_of_ble_eq_true rfl, Nat.le_of_ble_eq_true rfl⟩) hS (fun H locs hM hS => ?_)
      obtain ⟨x_21, ex_22⟩ : ∃ z : St, sI x 0 0 w = z := ⟨_, rfl⟩
      rw [ex_22] at hM
      refine lv_if_eq (tgt := 70) hx hb dX4_reading_63 (by decide) (fun c9 => absurd c9 (refF_ne hw0)) (fun _ => ?_)
      refine lv_iconst (v := 0) hx hb dX4_reading_66 (by decide) ?_
      refine lv_goto (tgt := 86) hx hb dX4_reading_67 (by decide) ?_
      rw [← hQ]
      exact m_iret () hx hb hr rfl hlk (by have hF : x_21 = sI x 0 0 w := (by subst ex_22 ev_17 ev_12; first | rfl); rw [← hF]; exact hM) hS (by subst ex_22 ev_17 ev_12; first | rfl) (by first | decide | omega) (by first | decide | omega) dX4_reading_86
    refine lv_if_eq (tgt := 59) hx hb dX4_reading_52 (by decide) (fun c_15 => ?_) (fun c_15 => ?_)
    · refine lv_iconst (v := 1) hx hb dX4_reading_59 (by decide) ?_
      exact J_18 _ (by first | (rw [if_pos c_15]) | rfl | (simp only [c_15, if_true, if_false, ite_true, ite_false, not_false_eq_true, reduceIte]))
    · refine lv_iconst (v := 0) hx hb dX4_reading_55 (by decide) ?_
      refine lv_goto (tgt := 60) hx hb dX4_reading_56 (by decide) ?_
      exact J_18 _ (by first | (rw [if_neg c_15]) | rfl | (simp only [c_15, if_true, if_false, ite_true, ite_false, not_false_eq_true, reduceIte]))
  refine lv_if_eq (tgt := 46) hx hb dX4_reading_39 (by decide) (fun c_10 => ?_) (fun c_10 => ?_)
  · refine lv_iconst (v := 0) hx hb dX4_reading_46 (by decide) ?_
    exact J_13 _ (by first | (rw [if_pos c_10]) | rfl | (simp only [c_10, if_true, if_false, ite_true, ite_false, not_false_eq_true, reduceIte]))
  · refine lv_iconst (v := 1) hx hb dX4_reading_42 (by decide) ?_
    refine lv_goto (tgt := 47) hx hb dX4_reading_43 (by decide) ?_
    exact J_13 _ (by first | (rw [if_neg c_10]) | rfl | (simp only [c_10, if_true, if_false, ite_true, ite_false, not_false_eq_true, reduceIte]))


def why_reading_k (x : St) (b m0 : Nat) : Int32 := (if (if (inF (nI m0) (x.1 22 b) ((nI (nt x 1 0)) - 1)) = 0 then 0 else 1 : Int32) = 0 then 1 else 0 : Int32)
abbrev rm_X4_reading_ok : Room := { frames := 1, cells := 0, slots := 0, locals := 22 }
set_option maxHeartbeats 400000 in
theorem k_X4_reading_ok (l : Launch) (g : GG) (A : Nat → Prop) (ad : Nat → Nat → Nat) (x : St) (hok : okM x) (b : Nat) (hbo : b < nt x 19 0) (m0 : Nat) (hm : m0 < 600) (n : Nat) (hn : n < 5) (hw : why_reading_k x b m0 = 0) : Met l yX4_reading (ws_ yX4_reading cX4_reading 5 (some .int)) rm_X4_reading_ok (va_Pc [.ref (ad 30 0), .int (nI b), .int (nI m0), .int (nI n)] (mPre g A (mwM g ad x))) (pQi g A (x.1 23 (3000 * b + 5 * m0 + n)) (mwM g ad (sI x 0 0 0))) 0 0 A := by
  refine m_start RX4 rfl (by decide) (Nat.le_of_ble_eq_true rfl) ?_
  intro p e s m args below meth c hcf hr hlk hnm hE hA H locs hM hS ls hl
  have hx := hcf.1
  have hb := hcf.2.1
  have hml := hcf.2.2.1
  have hown := hcf.2.2.2.1
  have hts := hcf.2.2.2.2
  have hl : lv_has ls 5 [(0, .ref (ad 30 0)), (1, .int (nI b)), (2, .int (nI m0)), (3, .int (nI n))] := hl
  have hb13 : nt x 13 0 < 11 := hok.h13.2
  have hb19 : nt x 19 0 < 11 := hok.h19.2
  have hb24 : nt x 24 0 < 41 := hok.h24.2
  have hb1 : nt x 1 0 < 601 := hok.h1.2
  generalize hQ : MQ below (pQi g A (x.1 23 (3000 * b + 5 * m0 + n)) (mwM g ad (sI x 0 0 0))) args s 0 0 A = Q
  refine lv_iload_n hx hb dX4_reading_0 rfl (lv_at hl 1 rfl) ?_
  refine lv_iconst (v := 0) hx hb dX4_reading_1 (by decide) ?_
  refine lv_aload_n hx hb dX4_reading_2 rfl (lv_at hl 0 rfl) ?_
  refine mm_get hcf hE hM 19 (by decide) q955 rfl rfl dX4_reading_3 ?_
  refine m_topI (y := nI (nt x 19 0)) ((by exact hok.h19.1)) ?_
  refine lv_iconst (v := 1) hx hb dX4_reading_6 (by decide) ?_
  refine lv_isub hx hb dX4_reading_7 ?_
  refine m_cpi (m_rS (As := [.int (nI b), .int 0, .int ((nI (nt x 19 0)) - 1)]) (rest := []) hcf (k_X4_within l g A (mwM g ad x) (nI b) 0 ((nI (nt x 19 0)) - 1)) (va_cwS 3 hts (lw_S q1044 q1045 q41 q1046) rfl rfl rfl (by decide +kernel) ⟨Nat.le_of_ble_eq_true rfl, Nat.le_of_ble_eq_true rfl⟩) hE hA hM hS rfl hl.1 rfl (Nat.le_of_ble_eq_true rfl) dX4_reading_8 ⟨Nat.le_of_ble_eq_true rfl, Nat.le_of_ble_eq_true rfl⟩) hS (fun H locs hM hS => ?_)
  refine m_topI (y := 1) (inF_cnt hbo (by omega)) ?_
  refine lv_if_eq (tgt := 46) hx hb dX4_reading_11 (by decide) (fun c9 => absurd c9 (by decide)) (fun _ => ?_)
  refine lv_iload_n hx hb dX4_reading_14 rfl (lv_at hl 3 rfl) ?_
  refine lv_iconst (v := 0) hx hb dX4_reading_15 (by decide) ?_
  refine lv_iconst (v := 4) hx hb dX4_reading_16 (by decide) ?_
  refine m_cpi (m_rS (As := [.int (nI n), .int 0, .int 4]) (rest := []) hcf (k_X4_within l g A (mwM g ad x) (nI n) 0 4) (va_cwS 3 hts (lw_S q1044 q1045 q41 q1046) rfl rfl rfl (by decide +kernel) ⟨Nat.le_of_ble_eq_true rfl, Nat.le_of_ble_eq_true rfl⟩) hE hA hM hS rfl hl.1 rfl (Nat.le_of_ble_eq_true rfl) dX4_reading_17 ⟨Nat.le_of_ble_eq_true rfl, Nat.le_of_ble_eq_true rfl⟩) hS (fun H locs hM hS => ?_)
  refine m_topI (y := 1) (inF_lay hn) ?_
  refine lv_if_eq (tgt := 46) hx hb dX4_reading_20 (by decide) (fun c9 => absurd c9 (by decide)) (fun _ => ?_)
  refine lv_iload_n hx hb dX4_reading_23 rfl (lv_at hl 2 rfl) ?_
  refine lv_aload_n hx hb dX4_reading_24 rfl (lv_at hl 0 rfl) ?_
  refine mm_get hcf hE hM 22 (by decide) q958 rfl rfl dX4_reading_25 ?_
  refine lv_iload_n hx hb dX4_reading_28 rfl (lv_at hl 1 rfl) ?_
  refine mm_ald hcf hE hM 22 rfl (by decide) b (by show _ < 10; omega) rfl dX4_reading_29 ?_
  refine lv_aload_n hx hb dX4_reading_30 rfl (lv_at hl 0 rfl) ?_
  refine mm_get hcf hE hM 1 (by decide) q937 rfl rfl dX4_reading_31 ?_
  refine m_topI (y := nI (nt x 1 0)) ((by exact hok.h1.1)) ?_
  refine lv_iconst (v := 1) hx hb dX4_reading_34 (by decide) ?_
  refine lv_isub hx hb dX4_reading_35 ?_
  refine m_cpi (m_rS (As := [.int (nI m0), .int (x.1 22 b), .int ((nI (nt x 1 0)) - 1)]) (rest := []) hcf (k_X4_within l g A (mwM g ad x) (nI m0) (x.1 22 b) ((nI (nt x 1 0)) - 1)) (va_cwS 3 hts (lw_S q1044 q1045 q41 q1046) rfl rfl rfl (by decide +kernel) ⟨Nat.le_of_ble_eq_true rfl, Nat.le_of_ble_eq_true rfl⟩) hE hA hM hS rfl hl.1 rfl (Nat.le_of_ble_eq_true rfl) dX4_reading_36 ⟨Nat.le_of_ble_eq_true rfl, Nat.le_of_ble_eq_true rfl⟩) hS (fun H locs hM hS => ?_)
  have J_13 : ∀ (v_11 : Int32), ((if (inF (nI m0) (x.1 22 b) ((nI (nt x 1 0)) - 1)) = 0 then 0 else 1) = v_11) → W p l e rm_X4_reading_ok s m args below meth c H locs 0 0 Q (F0 m 47 ls [.int v_11]) := by
    intro v_11 ev_12
    refine lv_istore (lv' := [(4, .int v_11), (0, .ref (ad 30 0)), (1, .int (nI b)), (2, .int (nI m0)), (3, .int (nI n))]) hx hb dX4_reading_47 hl (by decide) rfl (fun ls hl => ?_)
    refine lv_aload_n hx hb dX4_reading_49 rfl (lv_at hl 1 rfl) ?_
    refine lv_iload hx hb dX4_reading_50 (lv_at hl 0 rfl) ?_
    have J_18 : ∀ (v_16 : Int32), ((if v_11 = 0 then 1 else 0) = v_16) → W p l e rm_X4_reading_ok s m args below meth c H locs 0 0 Q (F0 m 60 ls [.int v_16, .ref (ad 30 0)]) := by
      intro v_16 ev_17
      refine m_topI (y := 0) ((by subst ev_17 ev_12; exact hw)) ?_
      refine m_cpi (m_rV (As := [.int 0]) (rest := []) hcf (k_X4_refused l g A ad x 0) (cwV 1 hts (lw_V q1047 q1049 qs16 q41 q1050) rfl rfl rfl (by decide +kernel) ⟨Nat.le_of_ble_eq_true rfl, Nat.le_of_ble_eq_true rfl⟩) hE hA hM hS 30 0 (mwM_o g ad _) (ci := 1) rfl rfl hl.1 rfl (Nat.le_of_ble_eq_true rfl) dX4_reading_60 ⟨Nat.le_of_ble_eq_true rfl, Nat.le_of_ble_eq_true rfl⟩) hS (fun H locs hM hS => ?_)
      obtain ⟨x_21, ex_22⟩ : ∃ z : St, sI x 0 0 0 = z := ⟨_, rfl⟩
      rw [ex_22] at hM
      refine m_topI (y := 0) (by decide) ?_
      refine lv_if_eq (tgt := 70) hx hb dX4_reading_63 (by decide) (fun _ => ?_) (fun c9 => absurd (by decide) c9)
      refine lv_aload_n hx hb dX4_reading_70 rfl (lv_at hl 1 rfl) ?_
      refine mm_get hcf hE hM 23 (by decide) q959 rfl rfl dX4_reading_71 ?_
      refine lv_sipush (v := 3000) hx hb dX4_reading_74 (by decide) ?_
      refine lv_iload_n hx hb dX4_reading_77 rfl (lv_at hl 2 rfl) ?_
      refine lv_imul hx hb dX4_reading_78 ?_
      refine m_topI (y := nI (3000 * b)) (pk_mul 3000 b) ?_
      refine lv_iconst (v := 5) hx hb dX4_reading_79 (by decide) ?_
      refine lv_iload_n hx hb dX4_reading_80 rfl (lv_at hl 3 rfl) ?_
      refine lv_imul hx hb dX4_reading_81 ?_
      refine m_topI (y := nI (5 * m0)) (pk_mul 5 m0) ?_
      refine lv_iadd hx hb dX4_reading_82 ?_
      refine m_topI (y := nI ((3000 * b) + (5 * m0))) (nI_add (3000 * b) (5 * m0)) ?_
      refine lv_iload_n hx hb dX4_reading_83 rfl (lv_at hl 4 rfl) ?_
      refine lv_iadd hx hb dX4_reading_84 ?_
      refine m_topI (y := nI (((3000 * b) + (5 * m0)) + n)) (nI_add ((3000 * b) + (5 * m0)) n) ?_
      refine mm_ald hcf hE hM 23 rfl (by decide) (((3000 * b) + (5 * m0)) + n) (by show _ < 30000; omega) rfl dX4_reading_85 ?_
      rw [← hQ]
      exact m_iret () hx hb hr rfl hlk (by have hF : x_21 = sI x 0 0 0 := (by subst ex_22 ev_17 ev_12; first | rfl); rw [← hF]; exact hM) hS (by subst ex_22 ev_17 ev_12; first | rfl) (by first | decide | omega) (by first | decide | omega) dX4_reading_86
    refine lv_if_eq (tgt := 59) hx hb dX4_reading_52 (by decide) (fun c_15 => ?_) (fun c_15 => ?_)
    · refine lv_iconst (v := 1) hx hb dX4_reading_59 (by decide) ?_
      exact J_18 _ (by first | (rw [if_pos c_15]) | rfl | (simp only [c_15, if_true, if_false, ite_true, ite_false, not_false_eq_true, reduceIte]))
    · refine lv_iconst (v := 0) hx hb dX4_reading_55 (by decide) ?_
      refine lv_goto (tgt := 60) hx hb dX4_reading_56 (by decide) ?_
      exact J_18 _ (by first | (rw [if_neg c_15]) | rfl | (simp only [c_15, if_true, if_false, ite_true, ite_false, not_false_eq_true, reduceIte]))
  refine lv_if_eq (tgt := 46) hx hb dX4_reading_39 (by decide) (fun c_10 => ?_) (fun c_10 => ?_)
  · refine lv_iconst (v := 0) hx hb dX4_reading_46 (by decide) ?_
    exact J_13 _ (by first | (rw [if_pos c_10]) | rfl | (simp only [c_10, if_true, if_false, ite_true, ite_false, not_false_eq_true, reduceIte]))
  · refine lv_iconst (v := 1) hx hb dX4_reading_42 (by decide) ?_
    refine lv_goto (tgt := 47) hx hb dX4_reading_43 (by decide) ?_
    exact J_13 _ (by first | (rw [if_neg c_10]) | rfl | (simp only [c_10, if_true, if_false, ite_true, ite_false, not_false_eq_true, reduceIte]))


def why_claimOf (x : St) (a0 : Int32) : Int32 := (if (inF a0 0 ((nI (nt x 24 0)) - 1)) = 0 then 1 else 0 : Int32)
abbrev rm_X4_claimOf_no : Room := { frames := 1, cells := 0, slots := 0, locals := 22 }
set_option maxHeartbeats 400000 in
theorem k_X4_claimOf_no (l : Launch) (g : GG) (A : Nat → Prop) (ad : Nat → Nat → Nat) (x : St) (hok : okM x) (a0 : Int32) (w : Int32) (hw : why_claimOf x a0 = w) (hw0 : ¬ w = 0) : Met l yX4_claimOf (ws_ yX4_claimOf cX4_claimOf 2 (some .int)) rm_X4_claimOf_no (va_Pc [.ref (ad 30 0), .int a0] (mPre g A (mwM g ad x))) (pQi g A 0 (mwM g ad (sI x 0 0 w))) 0 0 A := by
  refine m_start RX4 rfl (by decide) (Nat.le_of_ble_eq_true rfl) ?_
  intro p e s m args below meth c hcf hr hlk hnm hE hA H locs hM hS ls hl
  have hx := hcf.1
  have hb := hcf.2.1
  have hml := hcf.2.2.1
  have hown := hcf.2.2.2.1
  have hts := hcf.2.2.2.2
  have hl : lv_has ls 2 [(0, .ref (ad 30 0)), (1, .int a0)] := hl
  generalize hQ : MQ below (pQi g A 0 (mwM g ad (sI x 0 0 w))) args s 0 0 A = Q
  refine lv_aload_n hx hb dX4_claimOf_0 rfl (lv_at hl 0 rfl) ?_
  refine lv_iload_n hx hb dX4_claimOf_1 rfl (lv_at hl 1 rfl) ?_
  refine lv_iconst (v := 0) hx hb dX4_claimOf_2 (by decide) ?_
  refine lv_aload_n hx hb dX4_claimOf_3 rfl (lv_at hl 0 rfl) ?_
  refine mm_get hcf hE hM 24 (by decide) q960 rfl rfl dX4_claimOf_4 ?_
  refine m_topI (y := nI (nt x 24 0)) ((by exact hok.h24.1)) ?_
  refine lv_iconst (v := 1) hx hb dX4_claimOf_7 (by decide) ?_
  refine lv_isub hx hb dX4_claimOf_8 ?_
  refine m_cpi (m_rS (As := [.int a0, .int 0, .int ((nI (nt x 24 0)) - 1)]) (rest := [.ref (ad 30 0)]) hcf (k_X4_within l g A (mwM g ad x) a0 0 ((nI (nt x 24 0)) - 1)) (va_cwS 3 hts (lw_S q1044 q1045 q41 q1046) rfl rfl rfl (by decide +kernel) ⟨Nat.le_of_ble_eq_true rfl, Nat.le_of_ble_eq_true rfl⟩) hE hA hM hS rfl hl.1 rfl (Nat.le_of_ble_eq_true rfl) dX4_claimOf_9 ⟨Nat.le_of_ble_eq_true rfl, Nat.le_of_ble_eq_true rfl⟩) hS (fun H locs hM hS => ?_)
  have J_7 : ∀ (v_5 : Int32), ((if (inF a0 0 ((nI (nt x 24 0)) - 1)) = 0 then 1 else 0) = v_5) → W p l e rm_X4_claimOf_no s m args below meth c H locs 0 0 Q (F0 m 20 ls [.int v_5, .ref (ad 30 0)]) := by
    intro v_5 ev_6
    refine m_topI (y := w) ((by subst ev_6; exact hw)) ?_
    refine m_cpi (m_rV (As := [.int w]) (rest := []) hcf (k_X4_refused l g A ad x w) (cwV 1 hts (lw_V q1047 q1049 qs16 q41 q1050) rfl rfl rfl (by decide +kernel) ⟨Nat.le_of_ble_eq_true rfl, Nat.le_of_ble_eq_true rfl⟩) hE hA hM hS 30 0 (mwM_o g ad _) (ci := 1) rfl rfl hl.1 rfl (Nat.le_of_ble_eq_true rfl) dX4_claimOf_20 ⟨Nat.le_of_ble_eq_true rfl, Nat.le_of_ble_eq_true rfl⟩) hS (fun H locs hM hS => ?_)
    obtain ⟨x_10, ex_11⟩ : ∃ z : St, sI x 0 0 w = z := ⟨_, rfl⟩
    rw [ex_11] at hM
    refine lv_if_eq (tgt := 30) hx hb dX4_claimOf_23 (by decide) (fun c9 => absurd c9 (refF_ne hw0)) (fun _ => ?_)
    refine lv_iconst (v := 0) hx hb dX4_claimOf_26 (by decide) ?_
    refine lv_goto (tgt := 36) hx hb dX4_claimOf_27 (by decide) ?_
    rw [← hQ]
    exact m_iret () hx hb hr rfl hlk (by have hF : x_10 = sI x 0 0 w := (by subst ex_11 ev_6; first | rfl); rw [← hF]; exact hM) hS (by subst ex_11 ev_6; first | rfl) (by first | decide | omega) (by first | decide | omega) dX4_claimOf_36
  refine lv_if_eq (tgt := 19) hx hb dX4_claimOf_12 (by decide) (fun c_4 => ?_) (fun c_4 => ?_)
  · refine lv_iconst (v := 1) hx hb dX4_claimOf_19 (by decide) ?_
    exact J_7 _ (by first | (rw [if_pos c_4]) | rfl | (simp only [c_4, if_true, if_false, ite_true, ite_false, not_false_eq_true, reduceIte]))
  · refine lv_iconst (v := 0) hx hb dX4_claimOf_15 (by decide) ?_
    refine lv_goto (tgt := 20) hx hb dX4_claimOf_16 (by decide) ?_
    exact J_7 _ (by first | (rw [if_neg c_4]) | rfl | (simp only [c_4, if_true, if_false, ite_true, ite_false, not_false_eq_true, reduceIte]))


def why_claimOf_k (x : St) (h : Nat) : Int32 := (if (inF (nI h) 0 ((nI (nt x 24 0)) - 1)) = 0 then 1 else 0 : Int32)
abbrev rm_X4_claimOf_ok : Room := { frames := 1, cells := 0, slots := 0, locals := 22 }
set_option maxHeartbeats 400000 in
theorem k_X4_claimOf_ok (l : Launch) (g : GG) (A : Nat → Prop) (ad : Nat → Nat → Nat) (x : St) (hok : okM x) (h : Nat) (hh : h < nt x 24 0) (hw : why_claimOf_k x h = 0) : Met l yX4_claimOf (ws_ yX4_claimOf cX4_claimOf 2 (some .int)) rm_X4_claimOf_ok (va_Pc [.ref (ad 30 0), .int (nI h)] (mPre g A (mwM g ad x))) (pQi g A (x.1 25 h) (mwM g ad (sI x 0 0 0))) 0 0 A := by
  refine m_start RX4 rfl (by decide) (Nat.le_of_ble_eq_true rfl) ?_
  intro p e s m args below meth c hcf hr hlk hnm hE hA H locs hM hS ls hl
  have hx := hcf.1
  have hb := hcf.2.1
  have hml := hcf.2.2.1
  have hown := hcf.2.2.2.1
  have hts := hcf.2.2.2.2
  have hl : lv_has ls 2 [(0, .ref (ad 30 0)), (1, .int (nI h))] := hl
  have hb13 : nt x 13 0 < 11 := hok.h13.2
  have hb19 : nt x 19 0 < 11 := hok.h19.2
  have hb24 : nt x 24 0 < 41 := hok.h24.2
  have hb1 : nt x 1 0 < 601 := hok.h1.2
  generalize hQ : MQ below (pQi g A (x.1 25 h) (mwM g ad (sI x 0 0 0))) args s 0 0 A = Q
  refine lv_aload_n hx hb dX4_claimOf_0 rfl (lv_at hl 0 rfl) ?_
  refine lv_iload_n hx hb dX4_claimOf_1 rfl (lv_at hl 1 rfl) ?_
  refine lv_iconst (v := 0) hx hb dX4_claimOf_2 (by decide) ?_
  refine lv_aload_n hx hb dX4_claimOf_3 rfl (lv_at hl 0 rfl) ?_
  refine mm_get hcf hE hM 24 (by decide) q960 rfl rfl dX4_claimOf_4 ?_
  refine m_topI (y := nI (nt x 24 0)) ((by exact hok.h24.1)) ?_
  refine lv_iconst (v := 1) hx hb dX4_claimOf_7 (by decide) ?_
  refine lv_isub hx hb dX4_claimOf_8 ?_
  refine m_cpi (m_rS (As := [.int (nI h), .int 0, .int ((nI (nt x 24 0)) - 1)]) (rest := [.ref (ad 30 0)]) hcf (k_X4_within l g A (mwM g ad x) (nI h) 0 ((nI (nt x 24 0)) - 1)) (va_cwS 3 hts (lw_S q1044 q1045 q41 q1046) rfl rfl rfl (by decide +kernel) ⟨Nat.le_of_ble_eq_true rfl, Nat.le_of_ble_eq_true rfl⟩) hE hA hM hS rfl hl.1 rfl (Nat.le_of_ble_eq_true rfl) dX4_claimOf_9 ⟨Nat.le_of_ble_eq_true rfl, Nat.le_of_ble_eq_true rfl⟩) hS (fun H locs hM hS => ?_)
  have J_7 : ∀ (v_5 : Int32), ((if (inF (nI h) 0 ((nI (nt x 24 0)) - 1)) = 0 then 1 else 0) = v_5) → W p l e rm_X4_claimOf_ok s m args below meth c H locs 0 0 Q (F0 m 20 ls [.int v_5, .ref (ad 30 0)]) := by
    intro v_5 ev_6
    refine m_topI (y := 0) ((by subst ev_6; exact hw)) ?_
    refine m_cpi (m_rV (As := [.int 0]) (rest := []) hcf (k_X4_refused l g A ad x 0) (cwV 1 hts (lw_V q1047 q1049 qs16 q41 q1050) rfl rfl rfl (by decide +kernel) ⟨Nat.le_of_ble_eq_true rfl, Nat.le_of_ble_eq_true rfl⟩) hE hA hM hS 30 0 (mwM_o g ad _) (ci := 1) rfl rfl hl.1 rfl (Nat.le_of_ble_eq_true rfl) dX4_claimOf_20 ⟨Nat.le_of_ble_eq_true rfl, Nat.le_of_ble_eq_true rfl⟩) hS (fun H locs hM hS => ?_)
    obtain ⟨x_10, ex_11⟩ : ∃ z : St, sI x 0 0 0 = z := ⟨_, rfl⟩
    rw [ex_11] at hM
    refine m_topI (y := 0) (by decide) ?_
    refine lv_if_eq (tgt := 30) hx hb dX4_claimOf_23 (by decide) (fun _ => ?_) (fun c9 => absurd (by decide) c9)
    refine lv_aload_n hx hb dX4_claimOf_30 rfl (lv_at hl 0 rfl) ?_
    refine mm_get hcf hE hM 25 (by decide) q961 rfl rfl dX4_claimOf_31 ?_
    refine lv_iload_n hx hb dX4_claimOf_34 rfl (lv_at hl 1 rfl) ?_
    refine mm_ald hcf hE hM 25 rfl (by decide) h (by show _ < 40; omega) rfl dX4_claimOf_35 ?_
    rw [← hQ]
    exact m_iret () hx hb hr rfl hlk (by have hF : x_10 = sI x 0 0 0 := (by subst ex_11 ev_6; first | rfl); rw [← hF]; exact hM) hS (by subst ex_11 ev_6; first | rfl) (by first | decide | omega) (by first | decide | omega) dX4_claimOf_36
  refine lv_if_eq (tgt := 19) hx hb dX4_claimOf_12 (by decide) (fun c_4 => ?_) (fun c_4 => ?_)
  · refine lv_iconst (v := 1) hx hb dX4_claimOf_19 (by decide) ?_
    exact J_7 _ (by first | (rw [if_pos c_4]) | rfl | (simp only [c_4, if_true, if_false, ite_true, ite_false, not_false_eq_true, reduceIte]))
  · refine lv_iconst (v := 0) hx hb dX4_claimOf_15 (by decide) ?_
    refine lv_goto (tgt := 20) hx hb dX4_claimOf_16 (by decide) ?_
    exact J_7 _ (by first | (rw [if_neg c_4]) | rfl | (simp only [c_4, if_true, if_false, ite_true, ite_false, not_false_eq_true, reduceIte]))


abbrev rm_X4_claimAnew_no : Room := { frames := 2, cells := 0, slots := 0, locals := 43 }
set_option maxHeartbeats 400000 in
theorem k_X4_claimAnew_no (l : Launch) (g : GG) (A : Nat → Prop) (ad : Nat → Nat → Nat) (x : St) (hok : okM x) (a0 : Int32) (w : Int32) (hw : why_claimOf x a0 = w) (hw0 : ¬ w = 0) : Met l yX4_claimAnew (ws_ yX4_claimAnew cX4_claimAnew 2 (some .int)) rm_X4_claimAnew_no (va_Pc [.ref (ad 30 0), .int a0] (mPre g A (mwM g ad x))) (pQi g A 0 (mwM g ad (sI x 0 0 w))) 0 0 A := by
  refine m_start RX4 rfl (by decide) (Nat.le_of_ble_eq_true rfl) ?_
  intro p e s m args below meth c hcf hr hlk hnm hE hA H locs hM hS ls hl
  have hx := hcf.1
  have hb := hcf.2.1
  have hml := hcf.2.2.1
  have hown := hcf.2.2.2.1
  have hts := hcf.2.2.2.2
  have hl : lv_has ls 2 [(0, .ref (ad 30 0)), (1, .int a0)] := hl
  generalize hQ : MQ below (pQi g A 0 (mwM g ad (sI x 0 0 w))) args s 0 0 A = Q
  refine lv_aload_n hx hb dX4_claimAnew_0 rfl (lv_at hl 0 rfl) ?_
  refine lv_iload_n hx hb dX4_claimAnew_1 rfl (lv_at hl 1 rfl) ?_
  refine m_cpi (m_rV (As := [.int a0]) (rest := []) hcf (k_X4_claimOf_no l g A ad x hok a0 w hw hw0) (cwV 1 hts (lw_V q1189 q1182 q1183 q41 q1184) rfl rfl rfl (by decide +kernel) ⟨Nat.le_of_ble_eq_true rfl, Nat.le_of_ble_eq_true rfl⟩) hE hA hM hS 30 0 (mwM_o g ad _) (ci := 1) rfl rfl hl.1 rfl (Nat.le_of_ble_eq_true rfl) dX4_claimAnew_2 ⟨Nat.le_of_ble_eq_true rfl, Nat.le_of_ble_eq_true rfl⟩) hS (fun H locs hM hS => ?_)
  obtain ⟨x_3, ex_4⟩ : ∃ z : St, sI x 0 0 w = z := ⟨_, rfl⟩
  rw [ex_4] at hM
  rw [← hQ]
  exact m_iret () hx hb hr rfl hlk (by have hF : x_3 = sI x 0 0 w := (by subst ex_4; first | rfl); rw [← hF]; exact hM) hS (by subst ex_4; first | rfl) (by first | decide | omega) (by first | decide | omega) dX4_claimAnew_5

abbrev rm_X4_claimAnew_ok : Room := { frames := 2, cells := 0, slots := 0, locals := 43 }
set_option maxHeartbeats 400000 in
theorem k_X4_claimAnew_ok (l : Launch) (g : GG) (A : Nat → Prop) (ad : Nat → Nat → Nat) (x : St) (hok : okM x) (h : Nat) (hh : h < nt x 24 0) (hw : why_claimOf_k x h = 0) : Met l yX4_claimAnew (ws_ yX4_claimAnew cX4_claimAnew 2 (some .int)) rm_X4_claimAnew_ok (va_Pc [.ref (ad 30 0), .int (nI h)] (mPre g A (mwM g ad x))) (pQi g A (x.1 25 h) (mwM g ad (sI x 0 0 0))) 0 0 A := by
  refine m_start RX4 rfl (by decide) (Nat.le_of_ble_eq_true rfl) ?_
  intro p e s m args below meth c hcf hr hlk hnm hE hA H locs hM hS ls hl
  have hx := hcf.1
  have hb := hcf.2.1
  have hml := hcf.2.2.1
  have hown := hcf.2.2.2.1
  have hts := hcf.2.2.2.2
  have hl : lv_has ls 2 [(0, .ref (ad 30 0)), (1, .int (nI h))] := hl
  generalize hQ : MQ below (pQi g A (x.1 25 h) (mwM g ad (sI x 0 0 0))) args s 0 0 A = Q
  refine lv_aload_n hx hb dX4_claimAnew_0 rfl (lv_at hl 0 rfl) ?_
  refine lv_iload_n hx hb dX4_claimAnew_1 rfl (lv_at hl 1 rfl) ?_
  refine m_cpi (m_rV (As := [.int (nI h)]) (rest := []) hcf (k_X4_claimOf_ok l g A ad x hok h hh hw) (cwV 1 hts (lw_V q1189 q1182 q1183 q41 q1184) rfl rfl rfl (by decide +kernel) ⟨Nat.le_of_ble_eq_true rfl, Nat.le_of_ble_eq_true rfl⟩) hE hA hM hS 30 0 (mwM_o g ad _) (ci := 1) rfl rfl hl.1 rfl (Nat.le_of_ble_eq_true rfl) dX4_claimAnew_2 ⟨Nat.le_of_ble_eq_true rfl, Nat.le_of_ble_eq_true rfl⟩) hS (fun H locs hM hS => ?_)
  obtain ⟨x_3, ex_4⟩ : ∃ z : St, sI x 0 0 0 = z := ⟨_, rfl⟩
  rw [ex_4] at hM
  rw [← hQ]
  exact m_iret () hx hb hr rfl hlk (by have hF : x_3 = sI x 0 0 0 := (by subst ex_4; first | rfl); rw [← hF]; exact hM) hS (by subst ex_4; first | rfl) (by first | decide | omega) (by first | decide | omega) dX4_claimAnew_5

abbrev rm_X4_inLand : Room := { frames := 0, cells := 0, slots := 0, locals := 0 }
set_option maxHeartbeats 400000 in
theorem k_X4_inLand (l : Launch) (g : GG) (A : Nat → Prop) (ad : Nat → Nat → Nat) (x : St) (a0 : Int32) : Met l yX4_inLand (ws_ yX4_inLand cX4_inLand 5 (some .long)) rm_X4_inLand (va_Pc [.ref (ad 30 0), .int a0] (mPre g A (mwM g ad x))) (pQl g A (inlF x a0) (mwM g ad x)) 0 0 A := by
  refine m_start RX4 rfl (by decide) (Nat.le_of_ble_eq_true rfl) ?_
  intro p e s m args below meth c hcf hr hlk hnm hE hA H locs hM hS ls hl
  have hx := hcf.1
  have hb := hcf.2.1
  have hml := hcf.2.2.1
  have hown := hcf.2.2.2.1
  have hts := hcf.2.2.2.2
  have hl : lv_has ls 5 [(0, .ref (ad 30 0)), (1, .int a0)] := hl
  generalize hQ : MQ below (pQl g A (inlF x a0) (mwM g ad x)) args s 0 0 A = Q
  refine lv_lconst (v := 0) hx hb dX4_inLand_0 (by decide) ?_
  refine lv_lstore_n (lv' := [(2, .long 0), (0, .ref (ad 30 0)), (1, .int a0)]) hx hb dX4_inLand_1 rfl hl (by decide) rfl (fun ls hl => ?_)
  refine lv_iconst (v := 0) hx hb dX4_inLand_2 (by decide) ?_
  refine lv_istore (lv' := [(4, .int 0), (2, .long 0), (0, .ref (ad 30 0)), (1, .int a0)]) hx hb dX4_inLand_3 hl (by decide) rfl (fun ls hl => ?_)
  have L_3 : ∀ (n9 i_3 : Nat), i_3 + n9 = 125 → ∀ (H : Heap) (locs : List Loc) (ls : Array Slot), mW g.1 A (mwM g ad x) H → va_S A s.heap H locs → lv_has ls 5 [(0, .ref (ad 30 0)), (1, .int a0), (2, .long (inlA x a0 i_3)), (4, .int (nI i_3))] → W p l e rm_X4_inLand s m args below meth c H locs 0 0 Q (F0 m 5 ls []) := by
    intro n9
    induction n9 with
    | zero =>
      intro i_3 hi H locs ls hM hS hl 
      have hi : 125 = i_3 := by omega
      subst hi
      refine lv_iload hx hb dX4_inLand_5 (lv_at hl 3 rfl) ?_
      refine lv_bipush (v := 125) hx hb dX4_inLand_7 (by decide) ?_
      refine lv_icmp_ge (tgt := 68) hx hb dX4_inLand_9 (by decide) (fun _ => ?_) (fun c9 => absurd (by decide) c9)
      refine lv_iconst (v := 0) hx hb dX4_inLand_68 (by decide) ?_
      refine lv_istore (lv' := [(4, .int 0), (0, .ref (ad 30 0)), (1, .int a0), (2, .long (inlA x a0 125))]) hx hb dX4_inLand_69 hl (by decide) rfl (fun ls hl => ?_)
      have L_6 : ∀ (n9 i_6 : Nat), i_6 + n9 = 25 → ∀ (H : Heap) (locs : List Loc) (ls : Array Slot), mW g.1 A (mwM g ad x) H → va_S A s.heap H locs → lv_has ls 5 [(0, .ref (ad 30 0)), (1, .int a0), (2, .long (inlB x a0 (inlA x a0 125) i_6)), (4, .int (nI i_6))] → W p l e rm_X4_inLand s m args below meth c H locs 0 0 Q (F0 m 71 ls []) := by
        intro n9
        induction n9 with
        | zero =>
          intro i_6 hi H locs ls hM hS hl 
          have hi : 25 = i_6 := by omega
          subst hi
          refine lv_iload hx hb dX4_inLand_71 (lv_at hl 3 rfl) ?_
          refine lv_bipush (v := 25) hx hb dX4_inLand_73 (by decide) ?_
          refine lv_icmp_ge (tgt := 123) hx hb dX4_inLand_75 (by decide) (fun _ => ?_) (fun c9 => absurd (by decide) c9)
          refine lv_lload_n hx hb dX4_inLand_123 rfl (lv_at hl 2 rfl) ?_
          rw [← hQ]
          exact m_lret () hx hb hr hlk hM hS (by first | rfl) (by first | decide | omega) (by first | decide | omega) dX4_inLand_124
        | succ n9 ih =>
          intro i_6 hi H locs ls hM hS hl 
          have hlt_i_6 : i_6 < 25 := by omega
          refine lv_iload hx hb dX4_inLand_71 (lv_at hl 3 rfl) ?_
          refine lv_bipush (v := 25) hx hb dX4_inLand_73 (by decide) ?_
          refine lv_icmp_ge (tgt := 123) hx hb dX4_inLand_75 (by decide) (fun c9 => absurd c9 (nI_ge (a := i_6) (b := 25) (by omega) (by decide))) (fun _ => ?_)
          refine lv_lload_n hx hb dX4_inLand_78 rfl (lv_at hl 2 rfl) ?_
          refine lv_iload_n hx hb dX4_inLand_79 rfl (lv_at hl 1 rfl) ?_
          have J_13 : ∀ (v_11 : Int64), ((if a0 = 0 then ((1000 * (x.1 3 i_6)).toInt64) else (if a0 = 1 then ((x.1 3 i_6).toInt64) else 0)) = v_11) → W p l e rm_X4_inLand s m args below meth c H locs 0 0 Q (F0 m 115 ls [.long v_11, .long (inlB x a0 (inlA x a0 125) i_6)]) := by
            intro v_11 ev_12
            refine lv_ladd hx hb dX4_inLand_115 ?_
            refine lv_lstore_n (lv' := [(2, .long ((inlB x a0 (inlA x a0 125) i_6) + v_11)), (0, .ref (ad 30 0)), (1, .int a0), (4, .int (nI i_6))]) hx hb dX4_inLand_116 rfl hl (by decide) rfl (fun ls hl => ?_)
            refine lv_iinc (v := nI (i_6 + 1)) (lv' := [(4, .int (nI (i_6 + 1))), (2, .long ((inlB x a0 (inlA x a0 125) i_6) + v_11)), (0, .ref (ad 30 0)), (1, .int a0)]) hx hb dX4_inLand_117 hl (k := 3) rfl (nI_add i_6 1) (by decide) rfl (fun ls hl => ?_)
            refine lv_goto (tgt := 71) hx hb dX4_inLand_120 (by decide) ?_
            exact ih (i_6 + 1) (by omega) H locs ls hM hS (lv_sub hl [2, 3, 1, 0] (by subst ev_12; rfl))
          refine lv_if_ne (tgt := 98) hx hb dX4_inLand_80 (by decide) (fun c_9 => ?_) (fun c_9 => ?_)
          · refine lv_iload_n hx hb dX4_inLand_98 rfl (lv_at hl 1 rfl) ?_
            refine lv_iconst (v := 1) hx hb dX4_inLand_99 (by decide) ?_
            refine lv_icmp_ne (tgt := 114) hx hb dX4_inLand_100 (by decide) (fun c_10 => ?_) (fun c_10 => ?_)
            · refine lv_lconst (v := 0) hx hb dX4_inLand_114 (by decide) ?_
              exact J_13 _ (by first | (rw [if_neg c_9, if_neg c_10]) | rfl | (simp only [c_9, c_10, if_true, if_false, ite_true, ite_false, not_false_eq_true, reduceIte]))
            · refine lv_aload_n hx hb dX4_inLand_103 rfl (lv_at hl 0 rfl) ?_
              refine mm_get hcf hE hM 3 (by decide) q939 rfl rfl dX4_inLand_104 ?_
              refine lv_iload hx hb dX4_inLand_107 (lv_at hl 3 rfl) ?_
              refine mm_ald hcf hE hM 3 rfl (by decide) i_6 (by show _ < 25; omega) rfl dX4_inLand_109 ?_
              refine lv_i2l hx hb dX4_inLand_110 rfl ?_
              refine lv_goto (tgt := 115) hx hb dX4_inLand_111 (by decide) ?_
              exact J_13 _ (by first | (rw [if_neg c_9, if_pos c_10]) | rfl | (simp only [c_9, c_10, if_true, if_false, ite_true, ite_false, not_false_eq_true, reduceIte]))
          · refine lv_sipush (v := 1000) hx hb dX4_inLand_83 (by decide) ?_
            refine lv_aload_n hx hb dX4_inLand_86 rfl (lv_at hl 0 rfl) ?_
            refine mm_get hcf hE hM 3 (by decide) q939 rfl rfl dX4_inLand_87 ?_
            refine lv_iload hx hb dX4_inLand_90 (lv_at hl 3 rfl) ?_
            refine mm_ald hcf hE hM 3 rfl (by decide) i_6 (by show _ < 25; omega) rfl dX4_inLand_92 ?_
            refine lv_imul hx hb dX4_inLand_93 ?_
            refine lv_i2l hx hb dX4_inLand_94 rfl ?_
            refine lv_goto (tgt := 115) hx hb dX4_inLand_95 (by decide) ?_
            exact J_13 _ (by first | (rw [if_pos c_9]) | rfl | (simp only [c_9, if_true, if_false, ite_true, ite_false, not_false_eq_true, reduceIte]))
      exact L_6 (25) 0 (by omega) H locs ls hM hS (lv_sub hl [1, 2, 3, 0] rfl)
    | succ n9 ih =>
      intro i_3 hi H locs ls hM hS hl 
      have hlt_i_3 : i_3 < 125 := by omega
      refine lv_iload hx hb dX4_inLand_5 (lv_at hl 3 rfl) ?_
      refine lv_bipush (v := 125) hx hb dX4_inLand_7 (by decide) ?_
      refine lv_icmp_ge (tgt := 68) hx hb dX4_inLand_9 (by decide) (fun c9 => absurd c9 (nI_ge (a := i_3) (b := 125) (by omega) (by decide))) (fun _ => ?_)
      refine lv_lload_n hx hb dX4_inLand_12 rfl (lv_at hl 2 rfl) ?_
      refine lv_iload_n hx hb dX4_inLand_13 rfl (lv_at hl 1 rfl) ?_
      have J_21 : ∀ (v_19 : Int64), ((if a0 = 0 then ((x.1 10 i_3).toInt64) else (if a0 = 1 then (((x.1 8 i_3) + (x.1 9 i_3)).toInt64) else ((x.1 11 i_3).toInt64))) = v_19) → W p l e rm_X4_inLand s m args below meth c H locs 0 0 Q (F0 m 60 ls [.long v_19, .long (inlA x a0 i_3)]) := by
        intro v_19 ev_20
        refine lv_ladd hx hb dX4_inLand_60 ?_
        refine lv_lstore_n (lv' := [(2, .long ((inlA x a0 i_3) + v_19)), (0, .ref (ad 30 0)), (1, .int a0), (4, .int (nI i_3))]) hx hb dX4_inLand_61 rfl hl (by decide) rfl (fun ls hl => ?_)
        refine lv_iinc (v := nI (i_3 + 1)) (lv' := [(4, .int (nI (i_3 + 1))), (2, .long ((inlA x a0 i_3) + v_19)), (0, .ref (ad 30 0)), (1, .int a0)]) hx hb dX4_inLand_62 hl (k := 3) rfl (nI_add i_3 1) (by decide) rfl (fun ls hl => ?_)
        refine lv_goto (tgt := 5) hx hb dX4_inLand_65 (by decide) ?_
        exact ih (i_3 + 1) (by omega) H locs ls hM hS (lv_sub hl [2, 3, 1, 0] (by subst ev_20; rfl))
      refine lv_if_ne (tgt := 28) hx hb dX4_inLand_14 (by decide) (fun c_17 => ?_) (fun c_17 => ?_)
      · refine lv_iload_n hx hb dX4_inLand_28 rfl (lv_at hl 1 rfl) ?_
        refine lv_iconst (v := 1) hx hb dX4_inLand_29 (by decide) ?_
        refine lv_icmp_ne (tgt := 52) hx hb dX4_inLand_30 (by decide) (fun c_18 => ?_) (fun c_18 => ?_)
        · refine lv_aload_n hx hb dX4_inLand_52 rfl (lv_at hl 0 rfl) ?_
          refine mm_get hcf hE hM 11 (by decide) q947 rfl rfl dX4_inLand_53 ?_
          refine lv_iload hx hb dX4_inLand_56 (lv_at hl 3 rfl) ?_
          refine mm_ald hcf hE hM 11 rfl (by decide) i_3 (by show _ < 125; omega) rfl dX4_inLand_58 ?_
          refine lv_i2l hx hb dX4_inLand_59 rfl ?_
          exact J_21 _ (by first | (rw [if_neg c_17, if_neg c_18]) | rfl | (simp only [c_17, c_18, if_true, if_false, ite_true, ite_false, not_false_eq_true, reduceIte]))
        · refine lv_aload_n hx hb dX4_inLand_33 rfl (lv_at hl 0 rfl) ?_
          refine mm_get hcf hE hM 8 (by decide) q944 rfl rfl dX4_inLand_34 ?_
          refine lv_iload hx hb dX4_inLand_37 (lv_at hl 3 rfl) ?_
          refine mm_ald hcf hE hM 8 rfl (by decide) i_3 (by show _ < 125; omega) rfl dX4_inLand_39 ?_
          refine lv_aload_n hx hb dX4_inLand_40 rfl (lv_at hl 0 rfl) ?_
          refine mm_get hcf hE hM 9 (by decide) q945 rfl rfl dX4_inLand_41 ?_
          refine lv_iload hx hb dX4_inLand_44 (lv_at hl 3 rfl) ?_
          refine mm_ald hcf hE hM 9 rfl (by decide) i_3 (by show _ < 125; omega) rfl dX4_inLand_46 ?_
          refine lv_iadd hx hb dX4_inLand_47 ?_
          refine lv_i2l hx hb dX4_inLand_48 rfl ?_
          refine lv_goto (tgt := 60) hx hb dX4_inLand_49 (by decide) ?_
          exact J_21 _ (by first | (rw [if_neg c_17, if_pos c_18]) | rfl | (simp only [c_17, c_18, if_true, if_false, ite_true, ite_false, not_false_eq_true, reduceIte]))
      · refine lv_aload_n hx hb dX4_inLand_17 rfl (lv_at hl 0 rfl) ?_
        refine mm_get hcf hE hM 10 (by decide) q946 rfl rfl dX4_inLand_18 ?_
        refine lv_iload hx hb dX4_inLand_21 (lv_at hl 3 rfl) ?_
        refine mm_ald hcf hE hM 10 rfl (by decide) i_3 (by show _ < 125; omega) rfl dX4_inLand_23 ?_
        refine lv_i2l hx hb dX4_inLand_24 rfl ?_
        refine lv_goto (tgt := 60) hx hb dX4_inLand_25 (by decide) ?_
        exact J_21 _ (by first | (rw [if_pos c_17]) | rfl | (simp only [c_17, if_true, if_false, ite_true, ite_false, not_false_eq_true, reduceIte]))
  exact L_3 (125) 0 (by omega) H locs ls hM hS (lv_sub hl [2, 3, 1, 0] rfl)

def why_balance (a0 a1 : Int32) : Int32 := (if (inF a0 0 2) = 0 then 1 else (if (inF a1 0 3) = 0 then 1 else 0) : Int32)
abbrev rm_X4_balance_no : Room := { frames := 1, cells := 0, slots := 0, locals := 22 }
set_option maxHeartbeats 400000 in
theorem k_X4_balance_no (l : Launch) (g : GG) (A : Nat → Prop) (ad : Nat → Nat → Nat) (x : St) (a0 a1 : Int32) (w : Int32) (hw : why_balance a0 a1 = w) (hw0 : ¬ w = 0) : Met l yX4_balance (ws_ yX4_balance cX4_balance 7 (some .long)) rm_X4_balance_no (va_Pc [.ref (ad 30 0), .int a0, .int a1] (mPre g A (mwM g ad x))) (pQl g A 0 (mwM g ad (sI x 0 0 w))) 0 0 A := by
  refine m_start RX4 rfl (by decide) (Nat.le_of_ble_eq_true rfl) ?_
  intro p e s m args below meth c hcf hr hlk hnm hE hA H locs hM hS ls hl
  have hx := hcf.1
  have hb := hcf.2.1
  have hml := hcf.2.2.1
  have hown := hcf.2.2.2.1
  have hts := hcf.2.2.2.2
  have hl : lv_has ls 7 [(0, .ref (ad 30 0)), (1, .int a0), (2, .int a1)] := hl
  generalize hQ : MQ below (pQl g A 0 (mwM g ad (sI x 0 0 w))) args s 0 0 A = Q
  refine lv_aload_n hx hb dX4_balance_0 rfl (lv_at hl 0 rfl) ?_
  refine lv_iload_n hx hb dX4_balance_1 rfl (lv_at hl 1 rfl) ?_
  refine lv_iconst (v := 0) hx hb dX4_balance_2 (by decide) ?_
  refine lv_iconst (v := 2) hx hb dX4_balance_3 (by decide) ?_
  refine m_cpi (m_rS (As := [.int a0, .int 0, .int 2]) (rest := [.ref (ad 30 0)]) hcf (k_X4_within l g A (mwM g ad x) a0 0 2) (va_cwS 3 hts (lw_S q1044 q1045 q41 q1046) rfl rfl rfl (by decide +kernel) ⟨Nat.le_of_ble_eq_true rfl, Nat.le_of_ble_eq_true rfl⟩) hE hA hM hS rfl hl.1 rfl (Nat.le_of_ble_eq_true rfl) dX4_balance_4 ⟨Nat.le_of_ble_eq_true rfl, Nat.le_of_ble_eq_true rfl⟩) hS (fun H locs hM hS => ?_)
  have J_11 : ∀ (H : Heap) (locs : List Loc) (v_9 : Int32), mW g.1 A (mwM g ad x) H → va_S A s.heap H locs → ((if (inF a0 0 2) = 0 then 1 else (if (inF a1 0 3) = 0 then 1 else 0)) = v_9) → W p l e rm_X4_balance_no s m args below meth c H locs 0 0 Q (F0 m 24 ls [.int v_9, .ref (ad 30 0)]) := by
    intro H locs v_9 hM hS ev_10
    refine m_topI (y := w) ((by subst ev_10; exact hw)) ?_
    refine m_cpi (m_rV (As := [.int w]) (rest := []) hcf (k_X4_refused l g A ad x w) (cwV 1 hts (lw_V q1047 q1049 qs16 q41 q1050) rfl rfl rfl (by decide +kernel) ⟨Nat.le_of_ble_eq_true rfl, Nat.le_of_ble_eq_true rfl⟩) hE hA hM hS 30 0 (mwM_o g ad _) (ci := 1) rfl rfl hl.1 rfl (Nat.le_of_ble_eq_true rfl) dX4_balance_24 ⟨Nat.le_of_ble_eq_true rfl, Nat.le_of_ble_eq_true rfl⟩) hS (fun H locs hM hS => ?_)
    obtain ⟨x_14, ex_15⟩ : ∃ z : St, sI x 0 0 w = z := ⟨_, rfl⟩
    rw [ex_15] at hM
    refine lv_if_eq (tgt := 32) hx hb dX4_balance_27 (by decide) (fun c9 => absurd c9 (refF_ne hw0)) (fun _ => ?_)
    refine lv_lconst (v := 0) hx hb dX4_balance_30 (by decide) ?_
    rw [← hQ]
    exact m_lret () hx hb hr hlk (by have hF : x_14 = sI x 0 0 w := (by subst ex_15 ev_10; first | rfl | (unfold balF; rfl) | (unfold balC; rfl) | (unfold balE; rfl) | (unfold balF balC balE; rfl)); rw [← hF]; exact hM) hS (by subst ex_15 ev_10; first | rfl | (unfold balF; rfl) | (unfold balC; rfl) | (unfold balE; rfl) | (unfold balF balC balE; rfl)) (by first | decide | omega) (by first | decide | omega) dX4_balance_31
  refine lv_if_eq (tgt := 23) hx hb dX4_balance_7 (by decide) (fun c_4 => ?_) (fun c_4 => ?_)
  · refine lv_iconst (v := 1) hx hb dX4_balance_23 (by decide) ?_
    exact J_11 H locs _ hM hS (by first | (rw [if_pos c_4]) | rfl | (simp only [c_4, if_true, if_false, ite_true, ite_false, not_false_eq_true, reduceIte]))
  · refine lv_iload_n hx hb dX4_balance_10 rfl (lv_at hl 2 rfl) ?_
    refine lv_iconst (v := 0) hx hb dX4_balance_11 (by decide) ?_
    refine lv_iconst (v := 3) hx hb dX4_balance_12 (by decide) ?_
    refine m_cpi (m_rS (As := [.int a1, .int 0, .int 3]) (rest := [.ref (ad 30 0)]) hcf (k_X4_within l g A (mwM g ad x) a1 0 3) (va_cwS 3 hts (lw_S q1044 q1045 q41 q1046) rfl rfl rfl (by decide +kernel) ⟨Nat.le_of_ble_eq_true rfl, Nat.le_of_ble_eq_true rfl⟩) hE hA hM hS rfl hl.1 rfl (Nat.le_of_ble_eq_true rfl) dX4_balance_13 ⟨Nat.le_of_ble_eq_true rfl, Nat.le_of_ble_eq_true rfl⟩) hS (fun H locs hM hS => ?_)
    refine lv_if_eq (tgt := 23) hx hb dX4_balance_16 (by decide) (fun c_8 => ?_) (fun c_8 => ?_)
    · refine lv_iconst (v := 1) hx hb dX4_balance_23 (by decide) ?_
      exact J_11 H locs _ hM hS (by first | (rw [if_neg c_4, if_pos c_8]) | rfl | (simp only [c_4, c_8, if_true, if_false, ite_true, ite_false, not_false_eq_true, reduceIte]))
    · refine lv_iconst (v := 0) hx hb dX4_balance_19 (by decide) ?_
      refine lv_goto (tgt := 24) hx hb dX4_balance_20 (by decide) ?_
      exact J_11 H locs _ hM hS (by first | (rw [if_neg c_4, if_neg c_8]) | rfl | (simp only [c_4, c_8, if_true, if_false, ite_true, ite_false, not_false_eq_true, reduceIte]))

abbrev rm_X4_balance_ok : Room := { frames := 1, cells := 0, slots := 0, locals := 24 }
set_option maxHeartbeats 400000 in
theorem k_X4_balance_ok (l : Launch) (g : GG) (A : Nat → Prop) (ad : Nat → Nat → Nat) (x : St) (a0 a1 : Int32) (hw : why_balance a0 a1 = 0) : Met l yX4_balance (ws_ yX4_balance cX4_balance 7 (some .long)) rm_X4_balance_ok (va_Pc [.ref (ad 30 0), .int a0, .int a1] (mPre g A (mwM g ad x))) (pQl g A (balF (sI x 0 0 0) a0 a1) (mwM g ad (sI x 0 0 0))) 0 0 A := by
  refine m_start RX4 rfl (by decide) (Nat.le_of_ble_eq_true rfl) ?_
  intro p e s m args below meth c hcf hr hlk hnm hE hA H locs hM hS ls hl
  have hx := hcf.1
  have hb := hcf.2.1
  have hml := hcf.2.2.1
  have hown := hcf.2.2.2.1
  have hts := hcf.2.2.2.2
  have hl : lv_has ls 7 [(0, .ref (ad 30 0)), (1, .int a0), (2, .int a1)] := hl
  generalize hQ : MQ below (pQl g A (balF (sI x 0 0 0) a0 a1) (mwM g ad (sI x 0 0 0))) args s 0 0 A = Q
  refine lv_aload_n hx hb dX4_balance_0 rfl (lv_at hl 0 rfl) ?_
  refine lv_iload_n hx hb dX4_balance_1 rfl (lv_at hl 1 rfl) ?_
  refine lv_iconst (v := 0) hx hb dX4_balance_2 (by decide) ?_
  refine lv_iconst (v := 2) hx hb dX4_balance_3 (by decide) ?_
  refine m_cpi (m_rS (As := [.int a0, .int 0, .int 2]) (rest := [.ref (ad 30 0)]) hcf (k_X4_within l g A (mwM g ad x) a0 0 2) (va_cwS 3 hts (lw_S q1044 q1045 q41 q1046) rfl rfl rfl (by decide +kernel) ⟨Nat.le_of_ble_eq_true rfl, Nat.le_of_ble_eq_true rfl⟩) hE hA hM hS rfl hl.1 rfl (Nat.le_of_ble_eq_true rfl) dX4_balance_4 ⟨Nat.le_of_ble_eq_true rfl, Nat.le_of_ble_eq_true rfl⟩) hS (fun H locs hM hS => ?_)
  have J_11 : ∀ (H : Heap) (locs : List Loc) (v_9 : Int32), mW g.1 A (mwM g ad x) H → va_S A s.heap H locs → ((if (inF a0 0 2) = 0 then 1 else (if (inF a1 0 3) = 0 then 1 else 0)) = v_9) → W p l e rm_X4_balance_ok s m args below meth c H locs 0 0 Q (F0 m 24 ls [.int v_9, .ref (ad 30 0)]) := by
    intro H locs v_9 hM hS ev_10
    refine m_topI (y := 0) ((by subst ev_10; exact hw)) ?_
    refine m_cpi (m_rV (As := [.int 0]) (rest := []) hcf (k_X4_refused l g A ad x 0) (cwV 1 hts (lw_V q1047 q1049 qs16 q41 q1050) rfl rfl rfl (by decide +kernel) ⟨Nat.le_of_ble_eq_true rfl, Nat.le_of_ble_eq_true rfl⟩) hE hA hM hS 30 0 (mwM_o g ad _) (ci := 1) rfl rfl hl.1 rfl (Nat.le_of_ble_eq_true rfl) dX4_balance_24 ⟨Nat.le_of_ble_eq_true rfl, Nat.le_of_ble_eq_true rfl⟩) hS (fun H locs hM hS => ?_)
    obtain ⟨x_14, ex_15⟩ : ∃ z : St, sI x 0 0 0 = z := ⟨_, rfl⟩
    rw [ex_15] at hM
    refine m_topI (y := 0) (by decide) ?_
    refine lv_if_eq (tgt := 32) hx hb dX4_balance_27 (by decide) (fun _ => ?_) (fun c9 => absurd (by decide) c9)
    refine lv_iload_n hx hb dX4_balance_32 rfl (lv_at hl 1 rfl) ?_
    have J_21 : ∀ (v_19 : Int64), ((if a0 = 0 then (x_14.2 26) else (if a0 = 1 then (x_14.2 27) else (x_14.2 28))) = v_19) → W p l e rm_X4_balance_ok s m args below meth c H locs 0 0 Q (F0 m 59 ls [.long v_19]) := by
      intro v_19 ev_20
      refine lv_lstore_n (lv' := [(3, .long v_19), (0, .ref (ad 30 0)), (1, .int a0), (2, .int a1)]) hx hb dX4_balance_59 rfl hl (by decide) rfl (fun ls hl => ?_)
      refine lv_iload_n hx hb dX4_balance_60 rfl (lv_at hl 2 rfl) ?_
      have J_27 : ∀ (v_25 : Int64), ((if a0 = 0 then (1000 * (x_14.2 29)) else (if a0 = 1 then (x_14.2 29) else ((x_14.2 30) + (x_14.2 31)))) = v_25) → W p l e rm_X4_balance_ok s m args below meth c H locs 0 0 Q (F0 m 96 ls [.long v_25]) := by
        intro v_25 ev_26
        refine lv_lstore (lv' := [(5, .long v_25), (3, .long v_19), (0, .ref (ad 30 0)), (1, .int a0), (2, .int a1)]) hx hb dX4_balance_96 hl (by decide) rfl (fun ls hl => ?_)
        refine lv_iload_n hx hb dX4_balance_98 rfl (lv_at hl 4 rfl) ?_
        have J_40 : ∀ (H : Heap) (locs : List Loc) (v_38 : Int64), mW g.1 A (mwM g ad x_14) H → va_S A s.heap H locs → ((if a1 = 0 then (inlF x_14 a0) else (if a1 = 1 then v_19 else (if a1 = 2 then v_25 else ((v_19 - (inlF x_14 a0)) - v_25)))) = v_38) → W p l e rm_X4_balance_ok s m args below meth c H locs 0 0 Q (F0 m 139 ls [.long v_38]) := by
          intro H locs v_38 hM hS ev_39
          rw [← hQ]
          exact m_lret () hx hb hr hlk (by have hF : x_14 = sI x 0 0 0 := (by subst ev_39 ev_26 ev_20 ex_15 ev_10; first | rfl | (unfold balF; rfl) | (unfold balC; rfl) | (unfold balE; rfl) | (unfold balF balC balE; rfl)); rw [← hF]; exact hM) hS (by subst ev_39 ev_26 ev_20 ex_15 ev_10; first | rfl | (unfold balF; rfl) | (unfold balC; rfl) | (unfold balE; rfl) | (unfold balF balC balE; rfl)) (by first | decide | omega) (by first | decide | omega) dX4_balance_139
        refine lv_if_ne (tgt := 110) hx hb dX4_balance_99 (by decide) (fun c_29 => ?_) (fun c_29 => ?_)
        · refine lv_iload_n hx hb dX4_balance_110 rfl (lv_at hl 4 rfl) ?_
          refine lv_iconst (v := 1) hx hb dX4_balance_111 (by decide) ?_
          refine lv_icmp_ne (tgt := 119) hx hb dX4_balance_112 (by decide) (fun c_30 => ?_) (fun c_30 => ?_)
          · refine lv_iload_n hx hb dX4_balance_119 rfl (lv_at hl 4 rfl) ?_
            refine lv_iconst (v := 2) hx hb dX4_balance_120 (by decide) ?_
            refine lv_icmp_ne (tgt := 129) hx hb dX4_balance_121 (by decide) (fun c_31 => ?_) (fun c_31 => ?_)
            · refine lv_lload_n hx hb dX4_balance_129 rfl (lv_at hl 1 rfl) ?_
              refine lv_aload_n hx hb dX4_balance_130 rfl (lv_at hl 2 rfl) ?_
              refine lv_iload_n hx hb dX4_balance_131 rfl (lv_at hl 3 rfl) ?_
              refine m_cpl (m_rV (As := [.int a0]) (rest := [.long v_19]) hcf (k_X4_inLand l g A ad x_14 a0) (cwV 1 hts (lw_V q1194 q1196 qs33 q41 q1197) rfl rfl rfl (by decide +kernel) ⟨Nat.le_of_ble_eq_true rfl, Nat.le_of_ble_eq_true rfl⟩) hE hA hM hS 30 0 (mwM_o g ad _) (ci := 1) rfl rfl hl.1 rfl (Nat.le_of_ble_eq_true rfl) dX4_balance_132 ⟨Nat.le_of_ble_eq_true rfl, Nat.le_of_ble_eq_true rfl⟩) hS (fun H locs hM hS => ?_)
              refine lv_lsub hx hb dX4_balance_135 ?_
              refine lv_lload hx hb dX4_balance_136 (lv_at hl 0 rfl) ?_
              refine lv_lsub hx hb dX4_balance_138 ?_
              exact J_40 H locs _ hM hS (by first | (rw [if_neg c_29, if_neg c_30, if_neg c_31]) | rfl | (simp only [c_29, c_30, c_31, if_true, if_false, ite_true, ite_false, not_false_eq_true, reduceIte]))
            · refine lv_lload hx hb dX4_balance_124 (lv_at hl 0 rfl) ?_
              refine lv_goto (tgt := 139) hx hb dX4_balance_126 (by decide) ?_
              exact J_40 H locs _ hM hS (by first | (rw [if_neg c_29, if_neg c_30, if_pos c_31]) | rfl | (simp only [c_29, c_30, c_31, if_true, if_false, ite_true, ite_false, not_false_eq_true, reduceIte]))
          · refine lv_lload_n hx hb dX4_balance_115 rfl (lv_at hl 1 rfl) ?_
            refine lv_goto (tgt := 139) hx hb dX4_balance_116 (by decide) ?_
            exact J_40 H locs _ hM hS (by first | (rw [if_neg c_29, if_pos c_30]) | rfl | (simp only [c_29, c_30, if_true, if_false, ite_true, ite_false, not_false_eq_true, reduceIte]))
        · refine lv_aload_n hx hb dX4_balance_102 rfl (lv_at hl 2 rfl) ?_
          refine lv_iload_n hx hb dX4_balance_103 rfl (lv_at hl 3 rfl) ?_
          refine m_cpl (m_rV (As := [.int a0]) (rest := []) hcf (k_X4_inLand l g A ad x_14 a0) (cwV 1 hts (lw_V q1194 q1196 qs33 q41 q1197) rfl rfl rfl (by decide +kernel) ⟨Nat.le_of_ble_eq_true rfl, Nat.le_of_ble_eq_true rfl⟩) hE hA hM hS 30 0 (mwM_o g ad _) (ci := 1) rfl rfl hl.1 rfl (Nat.le_of_ble_eq_true rfl) dX4_balance_104 ⟨Nat.le_of_ble_eq_true rfl, Nat.le_of_ble_eq_true rfl⟩) hS (fun H locs hM hS => ?_)
          refine lv_goto (tgt := 139) hx hb dX4_balance_107 (by decide) ?_
          exact J_40 H locs _ hM hS (by first | (rw [if_pos c_29]) | rfl | (simp only [c_29, if_true, if_false, ite_true, ite_false, not_false_eq_true, reduceIte]))
      refine lv_if_ne (tgt := 75) hx hb dX4_balance_61 (by decide) (fun c_23 => ?_) (fun c_23 => ?_)
      · refine lv_iload_n hx hb dX4_balance_75 rfl (lv_at hl 2 rfl) ?_
        refine lv_iconst (v := 1) hx hb dX4_balance_76 (by decide) ?_
        refine lv_icmp_ne (tgt := 87) hx hb dX4_balance_77 (by decide) (fun c_24 => ?_) (fun c_24 => ?_)
        · refine lv_aload_n hx hb dX4_balance_87 rfl (lv_at hl 1 rfl) ?_
          refine mm_get hcf hE hM 30 (by decide) q966 rfl rfl dX4_balance_88 ?_
          refine lv_aload_n hx hb dX4_balance_91 rfl (lv_at hl 1 rfl) ?_
          refine mm_get hcf hE hM 31 (by decide) q967 rfl rfl dX4_balance_92 ?_
          refine lv_ladd hx hb dX4_balance_95 ?_
          exact J_27 _ (by first | (rw [if_neg c_23, if_neg c_24]) | rfl | (simp only [c_23, c_24, if_true, if_false, ite_true, ite_false, not_false_eq_true, reduceIte]))
        · refine lv_aload_n hx hb dX4_balance_80 rfl (lv_at hl 1 rfl) ?_
          refine mm_get hcf hE hM 29 (by decide) q965 rfl rfl dX4_balance_81 ?_
          refine lv_goto (tgt := 96) hx hb dX4_balance_84 (by decide) ?_
          exact J_27 _ (by first | (rw [if_neg c_23, if_pos c_24]) | rfl | (simp only [c_23, c_24, if_true, if_false, ite_true, ite_false, not_false_eq_true, reduceIte]))
      · refine lv_ldc2 hx hb hown (hts _ q1108) dX4_balance_64 ?_
        refine lv_aload_n hx hb dX4_balance_67 rfl (lv_at hl 1 rfl) ?_
        refine mm_get hcf hE hM 29 (by decide) q965 rfl rfl dX4_balance_68 ?_
        refine lv_lmul hx hb dX4_balance_71 ?_
        refine lv_goto (tgt := 96) hx hb dX4_balance_72 (by decide) ?_
        exact J_27 _ (by first | (rw [if_pos c_23]) | rfl | (simp only [c_23, if_true, if_false, ite_true, ite_false, not_false_eq_true, reduceIte]))
    refine lv_if_ne (tgt := 43) hx hb dX4_balance_33 (by decide) (fun c_17 => ?_) (fun c_17 => ?_)
    · refine lv_iload_n hx hb dX4_balance_43 rfl (lv_at hl 1 rfl) ?_
      refine lv_iconst (v := 1) hx hb dX4_balance_44 (by decide) ?_
      refine lv_icmp_ne (tgt := 55) hx hb dX4_balance_45 (by decide) (fun c_18 => ?_) (fun c_18 => ?_)
      · refine lv_aload_n hx hb dX4_balance_55 rfl (lv_at hl 0 rfl) ?_
        refine mm_get hcf hE hM 28 (by decide) q964 rfl rfl dX4_balance_56 ?_
        exact J_21 _ (by first | (rw [if_neg c_17, if_neg c_18]) | rfl | (simp only [c_17, c_18, if_true, if_false, ite_true, ite_false, not_false_eq_true, reduceIte]))
      · refine lv_aload_n hx hb dX4_balance_48 rfl (lv_at hl 0 rfl) ?_
        refine mm_get hcf hE hM 27 (by decide) q963 rfl rfl dX4_balance_49 ?_
        refine lv_goto (tgt := 59) hx hb dX4_balance_52 (by decide) ?_
        exact J_21 _ (by first | (rw [if_neg c_17, if_pos c_18]) | rfl | (simp only [c_17, c_18, if_true, if_false, ite_true, ite_false, not_false_eq_true, reduceIte]))
    · refine lv_aload_n hx hb dX4_balance_36 rfl (lv_at hl 0 rfl) ?_
      refine mm_get hcf hE hM 26 (by decide) q962 rfl rfl dX4_balance_37 ?_
      refine lv_goto (tgt := 59) hx hb dX4_balance_40 (by decide) ?_
      exact J_21 _ (by first | (rw [if_pos c_17]) | rfl | (simp only [c_17, if_true, if_false, ite_true, ite_false, not_false_eq_true, reduceIte]))
  refine lv_if_eq (tgt := 23) hx hb dX4_balance_7 (by decide) (fun c_4 => ?_) (fun c_4 => ?_)
  · refine lv_iconst (v := 1) hx hb dX4_balance_23 (by decide) ?_
    exact J_11 H locs _ hM hS (by first | (rw [if_pos c_4]) | rfl | (simp only [c_4, if_true, if_false, ite_true, ite_false, not_false_eq_true, reduceIte]))
  · refine lv_iload_n hx hb dX4_balance_10 rfl (lv_at hl 2 rfl) ?_
    refine lv_iconst (v := 0) hx hb dX4_balance_11 (by decide) ?_
    refine lv_iconst (v := 3) hx hb dX4_balance_12 (by decide) ?_
    refine m_cpi (m_rS (As := [.int a1, .int 0, .int 3]) (rest := [.ref (ad 30 0)]) hcf (k_X4_within l g A (mwM g ad x) a1 0 3) (va_cwS 3 hts (lw_S q1044 q1045 q41 q1046) rfl rfl rfl (by decide +kernel) ⟨Nat.le_of_ble_eq_true rfl, Nat.le_of_ble_eq_true rfl⟩) hE hA hM hS rfl hl.1 rfl (Nat.le_of_ble_eq_true rfl) dX4_balance_13 ⟨Nat.le_of_ble_eq_true rfl, Nat.le_of_ble_eq_true rfl⟩) hS (fun H locs hM hS => ?_)
    refine lv_if_eq (tgt := 23) hx hb dX4_balance_16 (by decide) (fun c_8 => ?_) (fun c_8 => ?_)
    · refine lv_iconst (v := 1) hx hb dX4_balance_23 (by decide) ?_
      exact J_11 H locs _ hM hS (by first | (rw [if_neg c_4, if_pos c_8]) | rfl | (simp only [c_4, c_8, if_true, if_false, ite_true, ite_false, not_false_eq_true, reduceIte]))
    · refine lv_iconst (v := 0) hx hb dX4_balance_19 (by decide) ?_
      refine lv_goto (tgt := 24) hx hb dX4_balance_20 (by decide) ?_
      exact J_11 H locs _ hM hS (by first | (rw [if_neg c_4, if_neg c_8]) | rfl | (simp only [c_4, c_8, if_true, if_false, ite_true, ite_false, not_false_eq_true, reduceIte]))


def why_air (a0 : Int32) : Int32 := (if (inF a0 0 1) = 0 then 1 else 0 : Int32)
abbrev rm_X4_air_no : Room := { frames := 1, cells := 0, slots := 0, locals := 22 }
set_option maxHeartbeats 400000 in
theorem k_X4_air_no (l : Launch) (g : GG) (A : Nat → Prop) (ad : Nat → Nat → Nat) (x : St) (a0 : Int32) (w : Int32) (hw : why_air a0 = w) (hw0 : ¬ w = 0) : Met l yX4_air (ws_ yX4_air cX4_air 2 (some .long)) rm_X4_air_no (va_Pc [.ref (ad 30 0), .int a0] (mPre g A (mwM g ad x))) (pQl g A 0 (mwM g ad (sI x 0 0 w))) 0 0 A := by
  refine m_start RX4 rfl (by decide) (Nat.le_of_ble_eq_true rfl) ?_
  intro p e s m args below meth c hcf hr hlk hnm hE hA H locs hM hS ls hl
  have hx := hcf.1
  have hb := hcf.2.1
  have hml := hcf.2.2.1
  have hown := hcf.2.2.2.1
  have hts := hcf.2.2.2.2
  have hl : lv_has ls 2 [(0, .ref (ad 30 0)), (1, .int a0)] := hl
  generalize hQ : MQ below (pQl g A 0 (mwM g ad (sI x 0 0 w))) args s 0 0 A = Q
  refine lv_aload_n hx hb dX4_air_0 rfl (lv_at hl 0 rfl) ?_
  refine lv_iload_n hx hb dX4_air_1 rfl (lv_at hl 1 rfl) ?_
  refine lv_iconst (v := 0) hx hb dX4_air_2 (by decide) ?_
  refine lv_iconst (v := 1) hx hb dX4_air_3 (by decide) ?_
  refine m_cpi (m_rS (As := [.int a0, .int 0, .int 1]) (rest := [.ref (ad 30 0)]) hcf (k_X4_within l g A (mwM g ad x) a0 0 1) (va_cwS 3 hts (lw_S q1044 q1045 q41 q1046) rfl rfl rfl (by decide +kernel) ⟨Nat.le_of_ble_eq_true rfl, Nat.le_of_ble_eq_true rfl⟩) hE hA hM hS rfl hl.1 rfl (Nat.le_of_ble_eq_true rfl) dX4_air_4 ⟨Nat.le_of_ble_eq_true rfl, Nat.le_of_ble_eq_true rfl⟩) hS (fun H locs hM hS => ?_)
  have J_7 : ∀ (v_5 : Int32), ((if (inF a0 0 1) = 0 then 1 else 0) = v_5) → W p l e rm_X4_air_no s m args below meth c H locs 0 0 Q (F0 m 15 ls [.int v_5, .ref (ad 30 0)]) := by
    intro v_5 ev_6
    refine m_topI (y := w) ((by subst ev_6; exact hw)) ?_
    refine m_cpi (m_rV (As := [.int w]) (rest := []) hcf (k_X4_refused l g A ad x w) (cwV 1 hts (lw_V q1047 q1049 qs16 q41 q1050) rfl rfl rfl (by decide +kernel) ⟨Nat.le_of_ble_eq_true rfl, Nat.le_of_ble_eq_true rfl⟩) hE hA hM hS 30 0 (mwM_o g ad _) (ci := 1) rfl rfl hl.1 rfl (Nat.le_of_ble_eq_true rfl) dX4_air_15 ⟨Nat.le_of_ble_eq_true rfl, Nat.le_of_ble_eq_true rfl⟩) hS (fun H locs hM hS => ?_)
    obtain ⟨x_10, ex_11⟩ : ∃ z : St, sI x 0 0 w = z := ⟨_, rfl⟩
    rw [ex_11] at hM
    refine lv_if_eq (tgt := 25) hx hb dX4_air_18 (by decide) (fun c9 => absurd c9 (refF_ne hw0)) (fun _ => ?_)
    refine lv_lconst (v := 0) hx hb dX4_air_21 (by decide) ?_
    refine lv_goto (tgt := 40) hx hb dX4_air_22 (by decide) ?_
    rw [← hQ]
    exact m_lret () hx hb hr hlk (by have hF : x_10 = sI x 0 0 w := (by subst ex_11 ev_6; first | rfl); rw [← hF]; exact hM) hS (by subst ex_11 ev_6; first | rfl) (by first | decide | omega) (by first | decide | omega) dX4_air_40
  refine lv_if_eq (tgt := 14) hx hb dX4_air_7 (by decide) (fun c_4 => ?_) (fun c_4 => ?_)
  · refine lv_iconst (v := 1) hx hb dX4_air_14 (by decide) ?_
    exact J_7 _ (by first | (rw [if_pos c_4]) | rfl | (simp only [c_4, if_true, if_false, ite_true, ite_false, not_false_eq_true, reduceIte]))
  · refine lv_iconst (v := 0) hx hb dX4_air_10 (by decide) ?_
    refine lv_goto (tgt := 15) hx hb dX4_air_11 (by decide) ?_
    exact J_7 _ (by first | (rw [if_neg c_4]) | rfl | (simp only [c_4, if_true, if_false, ite_true, ite_false, not_false_eq_true, reduceIte]))

abbrev rm_X4_air_ok : Room := { frames := 1, cells := 0, slots := 0, locals := 22 }
set_option maxHeartbeats 400000 in
theorem k_X4_air_ok (l : Launch) (g : GG) (A : Nat → Prop) (ad : Nat → Nat → Nat) (x : St) (a0 : Int32) (hw : why_air a0 = 0) : Met l yX4_air (ws_ yX4_air cX4_air 2 (some .long)) rm_X4_air_ok (va_Pc [.ref (ad 30 0), .int a0] (mPre g A (mwM g ad x))) (pQl g A (if a0 = 0 then x.2 30 else x.2 31) (mwM g ad (sI x 0 0 0))) 0 0 A := by
  refine m_start RX4 rfl (by decide) (Nat.le_of_ble_eq_true rfl) ?_
  intro p e s m args below meth c hcf hr hlk hnm hE hA H locs hM hS ls hl
  have hx := hcf.1
  have hb := hcf.2.1
  have hml := hcf.2.2.1
  have hown := hcf.2.2.2.1
  have hts := hcf.2.2.2.2
  have hl : lv_has ls 2 [(0, .ref (ad 30 0)), (1, .int a0)] := hl
  generalize hQ : MQ below (pQl g A (if a0 = 0 then x.2 30 else x.2 31) (mwM g ad (sI x 0 0 0))) args s 0 0 A = Q
  refine lv_aload_n hx hb dX4_air_0 rfl (lv_at hl 0 rfl) ?_
  refine lv_iload_n hx hb dX4_air_1 rfl (lv_at hl 1 rfl) ?_
  refine lv_iconst (v := 0) hx hb dX4_air_2 (by decide) ?_
  refine lv_iconst (v := 1) hx hb dX4_air_3 (by decide) ?_
  refine m_cpi (m_rS (As := [.int a0, .int 0, .int 1]) (rest := [.ref (ad 30 0)]) hcf (k_X4_within l g A (mwM g ad x) a0 0 1) (va_cwS 3 hts (lw_S q1044 q1045 q41 q1046) rfl rfl rfl (by decide +kernel) ⟨Nat.le_of_ble_eq_true rfl, Nat.le_of_ble_eq_true rfl⟩) hE hA hM hS rfl hl.1 rfl (Nat.le_of_ble_eq_true rfl) dX4_air_4 ⟨Nat.le_of_ble_eq_true rfl, Nat.le_of_ble_eq_true rfl⟩) hS (fun H locs hM hS => ?_)
  have J_7 : ∀ (v_5 : Int32), ((if (inF a0 0 1) = 0 then 1 else 0) = v_5) → W p l e rm_X4_air_ok s m args below meth c H locs 0 0 Q (F0 m 15 ls [.int v_5, .ref (ad 30 0)]) := by
    intro v_5 ev_6
    refine m_topI (y := 0) ((by subst ev_6; exact hw)) ?_
    refine m_cpi (m_rV (As := [.int 0]) (rest := []) hcf (k_X4_refused l g A ad x 0) (cwV 1 hts (lw_V q1047 q1049 qs16 q41 q1050) rfl rfl rfl (by decide +kernel) ⟨Nat.le_of_ble_eq_true rfl, Nat.le_of_ble_eq_true rfl⟩) hE hA hM hS 30 0 (mwM_o g ad _) (ci := 1) rfl rfl hl.1 rfl (Nat.le_of_ble_eq_true rfl) dX4_air_15 ⟨Nat.le_of_ble_eq_true rfl, Nat.le_of_ble_eq_true rfl⟩) hS (fun H locs hM hS => ?_)
    obtain ⟨x_10, ex_11⟩ : ∃ z : St, sI x 0 0 0 = z := ⟨_, rfl⟩
    rw [ex_11] at hM
    refine m_topI (y := 0) (by decide) ?_
    refine lv_if_eq (tgt := 25) hx hb dX4_air_18 (by decide) (fun _ => ?_) (fun c9 => absurd (by decide) c9)
    refine lv_iload_n hx hb dX4_air_25 rfl (lv_at hl 1 rfl) ?_
    have J_16 : ∀ (v_14 : Int64), ((if a0 = 0 then (x_10.2 30) else (x_10.2 31)) = v_14) → W p l e rm_X4_air_ok s m args below meth c H locs 0 0 Q (F0 m 40 ls [.long v_14]) := by
      intro v_14 ev_15
      rw [← hQ]
      exact m_lret () hx hb hr hlk (by have hF : x_10 = sI x 0 0 0 := (by subst ev_15 ex_11 ev_6; first | rfl); rw [← hF]; exact hM) hS (by subst ev_15 ex_11 ev_6; first | rfl) (by first | decide | omega) (by first | decide | omega) dX4_air_40
    refine lv_if_ne (tgt := 36) hx hb dX4_air_26 (by decide) (fun c_13 => ?_) (fun c_13 => ?_)
    · refine lv_aload_n hx hb dX4_air_36 rfl (lv_at hl 0 rfl) ?_
      refine mm_get hcf hE hM 31 (by decide) q967 rfl rfl dX4_air_37 ?_
      exact J_16 _ (by first | (rw [if_neg c_13]) | rfl | (simp only [c_13, if_true, if_false, ite_true, ite_false, not_false_eq_true, reduceIte]))
    · refine lv_aload_n hx hb dX4_air_29 rfl (lv_at hl 0 rfl) ?_
      refine mm_get hcf hE hM 30 (by decide) q966 rfl rfl dX4_air_30 ?_
      refine lv_goto (tgt := 40) hx hb dX4_air_33 (by decide) ?_
      exact J_16 _ (by first | (rw [if_pos c_13]) | rfl | (simp only [c_13, if_true, if_false, ite_true, ite_false, not_false_eq_true, reduceIte]))
  refine lv_if_eq (tgt := 14) hx hb dX4_air_7 (by decide) (fun c_4 => ?_) (fun c_4 => ?_)
  · refine lv_iconst (v := 1) hx hb dX4_air_14 (by decide) ?_
    exact J_7 _ (by first | (rw [if_pos c_4]) | rfl | (simp only [c_4, if_true, if_false, ite_true, ite_false, not_false_eq_true, reduceIte]))
  · refine lv_iconst (v := 0) hx hb dX4_air_10 (by decide) ?_
    refine lv_goto (tgt := 15) hx hb dX4_air_11 (by decide) ?_
    exact J_7 _ (by first | (rw [if_neg c_4]) | rfl | (simp only [c_4, if_true, if_false, ite_true, ite_false, not_false_eq_true, reduceIte]))

