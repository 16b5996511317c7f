/-! the reference: what happens, in its cases (w: why it's refused, 0: it isn't) -/
set_option maxRecDepth 100000
def refF (w : Int32) : Int32 := if w = 0 then 0 else 1
theorem refF_nar (w : Int32) : narrow .boolean (.int (refF w)) = .int (refF w) := by
  unfold refF
  split <;> rfl
theorem refF_ne {w : Int32} (h : ¬ w = 0) : ¬ refF w = 0 := by
  unfold refF
  rw [if_neg h]
  decide
theorem inF_lay {k : Nat} (h : k < 5) : inF (nI k) 0 4 = 1 := by
  have key : ∀ k, k < 5 → inF (nI k) 0 4 = 1 := by decide +kernel
  exact key k h
theorem inF_cell {k : Nat} (h : k < 25) : inF (nI k) 0 24 = 1 := by
  have key : ∀ k, k < 25 → inF (nI k) 0 24 = 1 := by decide +kernel
  exact key k h
def groF (x : St) (k : Nat) (a2 a3 a4 a5 : Int32) : St := sI (sI (sI (sI (sL (sL (sL x 26 (x.2 26 + (a4 - x.1 10 k).toInt64)) 27 (x.2 27 + (a2 + a3 - x.1 8 k - x.1 9 k).toInt64)) 28 (x.2 28 + (a5 - x.1 11 k).toInt64)) 8 k a2) 9 k a3) 10 k a4) 11 k a5
def mosF (x : St) (k : Nat) (v : Int32) : St := sI x 5 k v
def firF (x : St) (k : Nat) : St := sL (sI (sI x 5 k 0) 11 (5 * k) (x.1 11 (5 * k) - x.1 11 (5 * k) / 2)) 30 (x.2 30 + (x.1 11 (5 * k) / 2).toInt64)
def pasL (x : St) (air fall : Int32) : Nat → St := it (fun y _ => pasF y air fall) x
theorem pasL_s (x : St) (air fall : Int32) (i : Nat) : pasL x air fall (i + 1) = pasF (pasL x air fall i) air fall := it_succ _ _ _
theorem ok_r0 {x : St} (hok : okM x) (w : Int32) : okM (sI x 0 0 w) := (kq_sI (f := 0) rfl).ok hok
theorem ok_pas {x : St} {air fall : Int32} (hok : okM x) (hf : okN fall 10) (hm : nt x 1 0 < 600) : okM (pasF x air fall) ∧ nt (pasF x air fall) 1 0 = nt x 1 0 + 1 := by
  have h1 : nt (pa8 x air fall (nt x 19 0)) 1 0 = nt x 1 0 := ((kp_pa1 x air fall 25).tr (kq_pa8 x air fall _).p).n rfl (by decide) 0
  have ho : okM (pa8 x air fall (nt x 19 0)) := (kq_pa8 x air fall _).ok (ok_pa1 hok hf 25 (by omega))
  have e : (pasF x air fall).1 1 0 = nI (nt x 1 0 + 1) := by
    have e0 : (pasF x air fall).1 1 0 = nI (nt (pa8 x air fall (nt x 19 0)) 1 0 + 1) := rfl
    rw [e0, h1]
  refine ⟨fun f k hb => ?_, ?_⟩
  · by_cases h : f = 1 ∧ k = 0
    · obtain ⟨rfl, rfl⟩ := h
      rw [e]
      exact okN_nI (n := 601) (by omega) (by decide)
    · have e2 : (pasF x air fall).1 f k = (pa8 x air fall (nt x 19 0)).1 f k := if_neg h
      rw [e2]
      exact ho f k hb
  · show ((pasF x air fall).1 1 0).toNatClampNeg = _
    rw [e, nI_clamp (by omega)]
theorem ok_pasL {x : St} {air fall : Int32} {n : Nat} (hok : okM x) (hf : okN fall 10) (hm : nt x 1 0 + n ≤ 600) : ∀ i, i ≤ n → okM (pasL x air fall i) ∧ nt (pasL x air fall i) 1 0 = nt x 1 0 + i := by
  intro i
  induction i with
  | zero => intro _; exact ⟨hok, rfl⟩
  | succ i ih =>
    intro h
    obtain ⟨h1, h2⟩ := ih (by omega)
    obtain ⟨h3, h4⟩ := ok_pas (air := air) h1 hf (by omega)
    rw [pasL_s]
    exact ⟨h3, by omega⟩
abbrev rm_X4_refused : Room := { frames := 0, cells := 0, slots := 0, locals := 0 }
set_option maxHeartbeats 400000 in
theorem k_X4_refused (l : Launch) (g : GG) (A : Nat → Prop) (ad : Nat → Nat → Nat) (x : St) (w : Int32) : Met l yX4_refused (ws_ yX4_refused cX4_refused 2 (some .boolean)) rm_X4_refused (va_Pc [.ref (ad 30 0), .int w] (mPre g A (mwM g ad x))) (pQi g A (refF w) (mwM g ad (sI x 0 0 w))) 0 0 A := by
  refine m_start RX4 rfl (by decide) (Nat.le_of_ble_eq_true rfl) ?_
  intro p e s m args below meth c hcf hr hlk hnm hE hA H locs hM hS ls hl
  have hx := hcf.1
  have hb := hcf.2.1
  have hml := hcf.2.2.1
  have hown := hcf.2.2.2.1
  have hts := hcf.2.2.2.2
  have hl : lv_has ls 2 [(0, .ref (ad 30 0)), (1, .int w)] := hl
  generalize hQ : MQ below (pQi g A (refF w) (mwM g ad (sI x 0 0 w))) args s 0 0 A = Q
  refine lv_aload_n hx hb dX4_refused_0 rfl (lv_at hl 0 rfl) ?_
  refine lv_iload_n hx hb dX4_refused_1 rfl (lv_at hl 1 rfl) ?_
  refine mm_puti hcf hE hM hS 0 (by decide) rfl q936 rfl rfl rfl w rfl dX4_refused_2 (fun x_1 H locs ex_2 hM hS => ?_)
  refine lv_iload_n hx hb dX4_refused_5 rfl (lv_at hl 1 rfl) ?_
  have J_6 : ∀ (v_4 : Int32), ((if w = 0 then 0 else 1) = v_4) → W p l e rm_X4_refused s m args below meth c H locs 0 0 Q (F0 m 14 ls [.int v_4]) := by
    intro v_4 ev_5
    rw [← hQ]
    exact m_iret () hx hb hr (by subst ev_5 ex_2; first | rfl | exact refF_nar _) hlk (by have hF : x_1 = sI x 0 0 w := (by subst ev_5 ex_2; first | rfl | (unfold refF; rfl)); rw [← hF]; exact hM) hS (by subst ev_5 ex_2; first | rfl | (unfold refF; rfl)) (by first | decide | omega) (by first | decide | omega) dX4_refused_14
  refine lv_if_eq (tgt := 13) hx hb dX4_refused_6 (by decide) (fun c_3 => ?_) (fun c_3 => ?_)
  · refine lv_iconst (v := 0) hx hb dX4_refused_13 (by decide) ?_
    exact J_6 _ (by first | rfl | (rw [if_pos c_3]) | (simp only [c_3, if_true, if_false, ite_true, ite_false, not_false_eq_true, reduceIte]))
  · refine lv_iconst (v := 1) hx hb dX4_refused_9 (by decide) ?_
    refine lv_goto (tgt := 14) hx hb dX4_refused_10 (by decide) ?_
    exact J_6 _ (by first | rfl | (rw [if_neg c_3]) | (simp only [c_3, if_true, if_false, ite_true, ite_false, not_false_eq_true, reduceIte]))

abbrev rm_X4_thrown : Room := { frames := 0, cells := 0, slots := 0, locals := 0 }
set_option maxHeartbeats 400000 in
theorem k_X4_thrown (l : Launch) (g : GG) (A : Nat → Prop) (ad : Nat → Nat → Nat) (x : St) : Met l yX4_thrown (ws_ yX4_thrown cX4_thrown 1 (some .int)) rm_X4_thrown (va_Pc [.ref (ad 30 0)] (mPre g A (mwM g ad x))) (pQi g A (x.1 0 0) (mwM g ad x)) 0 0 A := by
  refine m_start RX4 rfl (by decide) (Nat.le_of_ble_eq_true rfl) ?_
  intro p e s m args below meth c hcf hr hlk hnm hE hA H locs hM hS ls hl
  have hx := hcf.1
  have hb := hcf.2.1
  have hml := hcf.2.2.1
  have hown := hcf.2.2.2.1
  have hts := hcf.2.2.2.2
  have hl : lv_has ls 1 [(0, .ref (ad 30 0))] := hl
  generalize hQ : MQ below (pQi g A (x.1 0 0) (mwM g ad x)) args s 0 0 A = Q
  refine lv_aload_n hx hb dX4_thrown_0 rfl (lv_at hl 0 rfl) ?_
  refine mm_get hcf hE hM 0 (by decide) q936 rfl rfl dX4_thrown_1 ?_
  rw [← hQ]
  exact m_iret () hx hb hr rfl hlk hM hS (by first | rfl) (by first | decide | omega) (by first | decide | omega) dX4_thrown_4

def why_ground (a0 a1 a2 a3 a4 a5 : Int32) : Int32 := (if (if (inF a0 0 24) = 0 then 0 else (if (inF a1 0 4) = 0 then 0 else 1) : Int32) = 0 then 1 else (if (if (inF a2 0 9) = 0 then 0 else (if (inF a3 0 9) = 0 then 0 else (if (inF a4 (-5000) 30000) = 0 then 0 else (if (inF a5 0 1000) = 0 then 0 else 1))) : Int32) = 0 then 2 else 0) : Int32)
abbrev rm_X4_ground_no : Room := { frames := 2, cells := 0, slots := 0, locals := 42 }
set_option maxHeartbeats 400000 in
theorem k_X4_ground_no (l : Launch) (g : GG) (A : Nat → Prop) (ad : Nat → Nat → Nat) (x : St) (a0 a1 a2 a3 a4 a5 : Int32) (w : Int32) (hw : why_ground a0 a1 a2 a3 a4 a5 = w) (hw0 : ¬ w = 0) : Met l yX4_ground (ws_ yX4_ground cX4_ground 10 none) rm_X4_ground_no (va_Pc [.ref (ad 30 0), .int a0, .int a1, .int a2, .int a3, .int a4, .int a5] (mPre g A (mwM g ad x))) (pQv g A (mwM g ad (sI x 0 0 w))) 0 0 A := by
  refine m_start RX4 rfl (by decide) (Nat.le_of_ble_eq_true rfl) ?_
  intro p e s m args below meth c hcf hr hlk hnm hE hA H locs hM hS ls hl
  have hx := hcf.1
  have hb := hcf.2.1
  have hml := hcf.2.2.1
  have hown := hcf.2.2.2.1
  have hts := hcf.2.2.2.2
  have hl : lv_has ls 10 [(0, .ref (ad 30 0)), (1, .int a0), (2, .int a1), (3, .int a2), (4, .int a3), (5, .int a4), (6, .int a5)] := hl
  generalize hQ : MQ below (pQv g A (mwM g ad (sI x 0 0 w))) args s 0 0 A = Q
  refine lv_iload_n hx hb dX4_ground_0 rfl (lv_at hl 1 rfl) ?_
  refine m_cpi (m_rS (As := [.int a0]) (rest := []) hcf (k_X4_isCell l g A (mwM g ad x) a0) (va_cwS 1 hts (lw_S q1041 q1042 q41 q1043) rfl rfl rfl (by decide +kernel) ⟨Nat.le_of_ble_eq_true rfl, Nat.le_of_ble_eq_true rfl⟩) hE hA hM hS rfl hl.1 rfl (Nat.le_of_ble_eq_true rfl) dX4_ground_1 ⟨Nat.le_of_ble_eq_true rfl, Nat.le_of_ble_eq_true rfl⟩) hS (fun H locs hM hS => ?_)
  have J_11 : ∀ (H : Heap) (locs : List Loc) (v_9 : Int32), mW g.1 A (mwM g ad x) H → va_S A s.heap H locs → ((if (inF a0 0 24) = 0 then 0 else (if (inF a1 0 4) = 0 then 0 else 1)) = v_9) → W p l e rm_X4_ground_no s m args below meth c H locs 0 0 Q (F0 m 21 ls [.int v_9]) := by
    intro H locs v_9 hM hS ev_10
    refine lv_istore (lv' := [(7, .int v_9), (0, .ref (ad 30 0)), (1, .int a0), (2, .int a1), (3, .int a2), (4, .int a3), (5, .int a4), (6, .int a5)]) hx hb dX4_ground_21 hl (by decide) rfl (fun ls hl => ?_)
    refine lv_iload_n hx hb dX4_ground_23 rfl (lv_at hl 4 rfl) ?_
    refine lv_iconst (v := 0) hx hb dX4_ground_24 (by decide) ?_
    refine lv_bipush (v := 9) hx hb dX4_ground_25 (by decide) ?_
    refine m_cpi (m_rS (As := [.int a2, .int 0, .int 9]) (rest := []) hcf (k_X4_within l g A (mwM g ad x) a2 0 9) (va_cwS 3 hts (lw_S q1044 q1045 q41 q1046) rfl rfl rfl (by decide +kernel) ⟨Nat.le_of_ble_eq_true rfl, Nat.le_of_ble_eq_true rfl⟩) hE hA hM hS rfl hl.1 rfl (Nat.le_of_ble_eq_true rfl) dX4_ground_27 ⟨Nat.le_of_ble_eq_true rfl, Nat.le_of_ble_eq_true rfl⟩) hS (fun H locs hM hS => ?_)
    have J_31 : ∀ (H : Heap) (locs : List Loc) (v_29 : Int32), mW g.1 A (mwM g ad x) H → va_S A s.heap H locs → ((if (inF a2 0 9) = 0 then 0 else (if (inF a3 0 9) = 0 then 0 else (if (inF a4 (-5000) 30000) = 0 then 0 else (if (inF a5 0 1000) = 0 then 0 else 1)))) = v_29) → W p l e rm_X4_ground_no s m args below meth c H locs 0 0 Q (F0 m 75 ls [.int v_29]) := by
      intro H locs v_29 hM hS ev_30
      refine lv_istore (lv' := [(8, .int v_29), (7, .int v_9), (0, .ref (ad 30 0)), (1, .int a0), (2, .int a1), (3, .int a2), (4, .int a3), (5, .int a4), (6, .int a5)]) hx hb dX4_ground_75 hl (by decide) rfl (fun ls hl => ?_)
      refine lv_aload_n hx hb dX4_ground_77 rfl (lv_at hl 2 rfl) ?_
      refine lv_iload hx hb dX4_ground_78 (lv_at hl 1 rfl) ?_
      have J_37 : ∀ (v_35 : Int32), ((if v_9 = 0 then 1 else (if v_29 = 0 then 2 else 0)) = v_35) → W p l e rm_X4_ground_no s m args below meth c H locs 0 0 Q (F0 m 97 ls [.int v_35, .ref (ad 30 0)]) := by
        intro v_35 ev_36
        refine m_topI (y := w) ((by subst ev_36 ev_30 ev_10; exact hw)) ?_
        refine m_cpi (m_rV (As := [.int w]) (rest := []) hcf (k_X4_refused l g A ad x w) (cwV 1 hts (lw_V q1047 q1049 qs16 q41 q1050) rfl rfl rfl (by decide +kernel) ⟨Nat.le_of_ble_eq_true rfl, Nat.le_of_ble_eq_true rfl⟩) hE hA hM hS 30 0 (mwM_o g ad _) (ci := 1) rfl rfl hl.1 rfl (Nat.le_of_ble_eq_true rfl) dX4_ground_97 ⟨Nat.le_of_ble_eq_true rfl, Nat.le_of_ble_eq_true rfl⟩) hS (fun H locs hM hS => ?_)
        obtain ⟨x_40, ex_41⟩ : ∃ z : St, sI x 0 0 w = z := ⟨_, rfl⟩
        rw [ex_41] at hM
        refine lv_if_eq (tgt := 104) hx hb dX4_ground_100 (by decide) (fun c9 => absurd c9 (refF_ne hw0)) (fun _ => ?_)
        rw [← hQ]
        exact m_vret () hx hb hr hlk (by have hF : x_40 = sI x 0 0 w := (by subst ex_41 ev_36 ev_30 ev_10; first | rfl); rw [← hF]; exact hM) hS trivial (by first | decide | omega) (by first | decide | omega) dX4_ground_103
      refine lv_if_ne (tgt := 87) hx hb dX4_ground_80 (by decide) (fun c_33 => ?_) (fun c_33 => ?_)
      · refine lv_iload hx hb dX4_ground_87 (lv_at hl 0 rfl) ?_
        refine lv_if_ne (tgt := 96) hx hb dX4_ground_89 (by decide) (fun c_34 => ?_) (fun c_34 => ?_)
        · refine lv_iconst (v := 0) hx hb dX4_ground_96 (by decide) ?_
          exact J_37 _ (by first | rfl | (rw [if_neg c_33, if_neg c_34]) | (simp only [c_33, c_34, if_true, if_false, ite_true, ite_false, not_false_eq_true, reduceIte]))
        · refine lv_iconst (v := 2) hx hb dX4_ground_92 (by decide) ?_
          refine lv_goto (tgt := 97) hx hb dX4_ground_93 (by decide) ?_
          exact J_37 _ (by first | rfl | (rw [if_neg c_33, if_pos c_34]) | (simp only [c_33, c_34, if_true, if_false, ite_true, ite_false, not_false_eq_true, reduceIte]))
      · refine lv_iconst (v := 1) hx hb dX4_ground_83 (by decide) ?_
        refine lv_goto (tgt := 97) hx hb dX4_ground_84 (by decide) ?_
        exact J_37 _ (by first | rfl | (rw [if_pos c_33]) | (simp only [c_33, if_true, if_false, ite_true, ite_false, not_false_eq_true, reduceIte]))
    refine lv_if_eq (tgt := 74) hx hb dX4_ground_30 (by decide) (fun c_16 => ?_) (fun c_16 => ?_)
    · refine lv_iconst (v := 0) hx hb dX4_ground_74 (by decide) ?_
      exact J_31 H locs _ hM hS (by first | rfl | (rw [if_pos c_16]) | (simp only [c_16, if_true, if_false, ite_true, ite_false, not_false_eq_true, reduceIte]))
    · refine lv_iload hx hb dX4_ground_33 (lv_at hl 5 rfl) ?_
      refine lv_iconst (v := 0) hx hb dX4_ground_35 (by decide) ?_
      refine lv_bipush (v := 9) hx hb dX4_ground_36 (by decide) ?_
      refine m_cpi (m_rS (As := [.int a3, .int 0, .int 9]) (rest := []) hcf (k_X4_within l g A (mwM g ad x) a3 0 9) (va_cwS 3 hts (lw_S q1044 q1045 q41 q1046) rfl rfl rfl (by decide +kernel) ⟨Nat.le_of_ble_eq_true rfl, Nat.le_of_ble_eq_true rfl⟩) hE hA hM hS rfl hl.1 rfl (Nat.le_of_ble_eq_true rfl) dX4_ground_38 ⟨Nat.le_of_ble_eq_true rfl, Nat.le_of_ble_eq_true rfl⟩) hS (fun H locs hM hS => ?_)
      refine lv_if_eq (tgt := 74) hx hb dX4_ground_41 (by decide) (fun c_20 => ?_) (fun c_20 => ?_)
      · refine lv_iconst (v := 0) hx hb dX4_ground_74 (by decide) ?_
        exact J_31 H locs _ hM hS (by first | rfl | (rw [if_neg c_16, if_pos c_20]) | (simp only [c_16, c_20, if_true, if_false, ite_true, ite_false, not_false_eq_true, reduceIte]))
      · refine lv_iload hx hb dX4_ground_44 (lv_at hl 6 rfl) ?_
        refine lv_sipush (v := (-5000)) hx hb dX4_ground_46 (by decide) ?_
        refine lv_sipush (v := 30000) hx hb dX4_ground_49 (by decide) ?_
        refine m_cpi (m_rS (As := [.int a4, .int (-5000), .int 30000]) (rest := []) hcf (k_X4_within l g A (mwM g ad x) a4 (-5000) 30000) (va_cwS 3 hts (lw_S q1044 q1045 q41 q1046) rfl rfl rfl (by decide +kernel) ⟨Nat.le_of_ble_eq_true rfl, Nat.le_of_ble_eq_true rfl⟩) hE hA hM hS rfl hl.1 rfl (Nat.le_of_ble_eq_true rfl) dX4_ground_52 ⟨Nat.le_of_ble_eq_true rfl, Nat.le_of_ble_eq_true rfl⟩) hS (fun H locs hM hS => ?_)
        refine lv_if_eq (tgt := 74) hx hb dX4_ground_55 (by decide) (fun c_24 => ?_) (fun c_24 => ?_)
        · refine lv_iconst (v := 0) hx hb dX4_ground_74 (by decide) ?_
          exact J_31 H locs _ hM hS (by first | rfl | (rw [if_neg c_16, if_neg c_20, if_pos c_24]) | (simp only [c_16, c_20, c_24, if_true, if_false, ite_true, ite_false, not_false_eq_true, reduceIte]))
        · refine lv_iload hx hb dX4_ground_58 (lv_at hl 7 rfl) ?_
          refine lv_iconst (v := 0) hx hb dX4_ground_60 (by decide) ?_
          refine lv_sipush (v := 1000) hx hb dX4_ground_61 (by decide) ?_
          refine m_cpi (m_rS (As := [.int a5, .int 0, .int 1000]) (rest := []) hcf (k_X4_within l g A (mwM g ad x) a5 0 1000) (va_cwS 3 hts (lw_S q1044 q1045 q41 q1046) rfl rfl rfl (by decide +kernel) ⟨Nat.le_of_ble_eq_true rfl, Nat.le_of_ble_eq_true rfl⟩) hE hA hM hS rfl hl.1 rfl (Nat.le_of_ble_eq_true rfl) dX4_ground_64 ⟨Nat.le_of_ble_eq_true rfl, Nat.le_of_ble_eq_true rfl⟩) hS (fun H locs hM hS => ?_)
          refine lv_if_eq (tgt := 74) hx hb dX4_ground_67 (by decide) (fun c_28 => ?_) (fun c_28 => ?_)
          · refine lv_iconst (v := 0) hx hb dX4_ground_74 (by decide) ?_
            exact J_31 H locs _ hM hS (by first | rfl | (rw [if_neg c_16, if_neg c_20, if_neg c_24, if_pos c_28]) | (simp only [c_16, c_20, c_24, c_28, if_true, if_false, ite_true, ite_false, not_false_eq_true, reduceIte]))
          · refine lv_iconst (v := 1) hx hb dX4_ground_70 (by decide) ?_
            refine lv_goto (tgt := 75) hx hb dX4_ground_71 (by decide) ?_
            exact J_31 H locs _ hM hS (by first | rfl | (rw [if_neg c_16, if_neg c_20, if_neg c_24, if_neg c_28]) | (simp only [c_16, c_20, c_24, c_28, if_true, if_false, ite_true, ite_false, not_false_eq_true, reduceIte]))
  refine lv_if_eq (tgt := 20) hx hb dX4_ground_4 (by decide) (fun c_4 => ?_) (fun c_4 => ?_)
  · refine lv_iconst (v := 0) hx hb dX4_ground_20 (by decide) ?_
    exact J_11 H locs _ hM hS (by first | rfl | (rw [if_pos c_4]) | (simp only [c_4, if_true, if_false, ite_true, ite_false, not_false_eq_true, reduceIte]))
  · refine lv_iload_n hx hb dX4_ground_7 rfl (lv_at hl 2 rfl) ?_
    refine lv_iconst (v := 0) hx hb dX4_ground_8 (by decide) ?_
    refine lv_iconst (v := 4) hx hb dX4_ground_9 (by decide) ?_
    refine m_cpi (m_rS (As := [.int a1, .int 0, .int 4]) (rest := []) hcf (k_X4_within l g A (mwM g ad x) a1 0 4) (va_cwS 3 hts (lw_S q1044 q1045 q41 q1046) rfl rfl rfl (by decide +kernel) ⟨Nat.le_of_ble_eq_true rfl, Nat.le_of_ble_eq_true rfl⟩) hE hA hM hS rfl hl.1 rfl (Nat.le_of_ble_eq_true rfl) dX4_ground_10 ⟨Nat.le_of_ble_eq_true rfl, Nat.le_of_ble_eq_true rfl⟩) hS (fun H locs hM hS => ?_)
    refine lv_if_eq (tgt := 20) hx hb dX4_ground_13 (by decide) (fun c_8 => ?_) (fun c_8 => ?_)
    · refine lv_iconst (v := 0) hx hb dX4_ground_20 (by decide) ?_
      exact J_11 H locs _ hM hS (by first | rfl | (rw [if_neg c_4, if_pos c_8]) | (simp only [c_4, c_8, if_true, if_false, ite_true, ite_false, not_false_eq_true, reduceIte]))
    · refine lv_iconst (v := 1) hx hb dX4_ground_16 (by decide) ?_
      refine lv_goto (tgt := 21) hx hb dX4_ground_17 (by decide) ?_
      exact J_11 H locs _ hM hS (by first | rfl | (rw [if_neg c_4, if_neg c_8]) | (simp only [c_4, c_8, if_true, if_false, ite_true, ite_false, not_false_eq_true, reduceIte]))


def why_ground_k (a2 a3 a4 a5 : Int32) : Int32 := (if (if (inF a2 0 9) = 0 then 0 else (if (inF a3 0 9) = 0 then 0 else (if (inF a4 (-5000) 30000) = 0 then 0 else (if (inF a5 0 1000) = 0 then 0 else 1))) : Int32) = 0 then 2 else 0 : Int32)
abbrev rm_X4_ground_ok : Room := { frames := 2, cells := 0, slots := 0, locals := 42 }
set_option maxHeartbeats 400000 in
theorem k_X4_ground_ok (l : Launch) (g : GG) (A : Nat → Prop) (ad : Nat → Nat → Nat) (x : St) (k n : Nat) (hk : k < 25) (hn : n < 5) (a2 a3 a4 a5 : Int32) (hw : why_ground_k a2 a3 a4 a5 = 0) : Met l yX4_ground (ws_ yX4_ground cX4_ground 10 none) rm_X4_ground_ok (va_Pc [.ref (ad 30 0), .int (nI k), .int (nI n), .int a2, .int a3, .int a4, .int a5] (mPre g A (mwM g ad x))) (pQv g A (mwM g ad (groF (sI x 0 0 0) (5 * k + n) a2 a3 a4 a5))) 0 0 A := by
  refine m_start RX4 rfl (by decide) (Nat.le_of_ble_eq_true rfl) ?_
  intro p e s m args below meth c hcf hr hlk hnm hE hA H locs hM hS ls hl
  have hx := hcf.1
  have hb := hcf.2.1
  have hml := hcf.2.2.1
  have hown := hcf.2.2.2.1
  have hts := hcf.2.2.2.2
  have hl : lv_has ls 10 [(0, .ref (ad 30 0)), (1, .int (nI k)), (2, .int (nI n)), (3, .int a2), (4, .int a3), (5, .int a4), (6, .int a5)] := hl
  generalize hQ : MQ below (pQv g A (mwM g ad (groF (sI x 0 0 0) (5 * k + n) a2 a3 a4 a5))) args s 0 0 A = Q
  refine lv_iload_n hx hb dX4_ground_0 rfl (lv_at hl 1 rfl) ?_
  refine m_cpi (m_rS (As := [.int (nI k)]) (rest := []) hcf (k_X4_isCell l g A (mwM g ad x) (nI k)) (va_cwS 1 hts (lw_S q1041 q1042 q41 q1043) rfl rfl rfl (by decide +kernel) ⟨Nat.le_of_ble_eq_true rfl, Nat.le_of_ble_eq_true rfl⟩) hE hA hM hS rfl hl.1 rfl (Nat.le_of_ble_eq_true rfl) dX4_ground_1 ⟨Nat.le_of_ble_eq_true rfl, Nat.le_of_ble_eq_true rfl⟩) hS (fun H locs hM hS => ?_)
  refine m_topI (y := 1) (inF_cell hk) ?_
  refine lv_if_eq (tgt := 20) hx hb dX4_ground_4 (by decide) (fun c9 => absurd c9 (by decide)) (fun _ => ?_)
  refine lv_iload_n hx hb dX4_ground_7 rfl (lv_at hl 2 rfl) ?_
  refine lv_iconst (v := 0) hx hb dX4_ground_8 (by decide) ?_
  refine lv_iconst (v := 4) hx hb dX4_ground_9 (by decide) ?_
  refine m_cpi (m_rS (As := [.int (nI n), .int 0, .int 4]) (rest := []) hcf (k_X4_within l g A (mwM g ad x) (nI n) 0 4) (va_cwS 3 hts (lw_S q1044 q1045 q41 q1046) rfl rfl rfl (by decide +kernel) ⟨Nat.le_of_ble_eq_true rfl, Nat.le_of_ble_eq_true rfl⟩) hE hA hM hS rfl hl.1 rfl (Nat.le_of_ble_eq_true rfl) dX4_ground_10 ⟨Nat.le_of_ble_eq_true rfl, Nat.le_of_ble_eq_true rfl⟩) hS (fun H locs hM hS => ?_)
  refine m_topI (y := 1) (inF_lay hn) ?_
  refine lv_if_eq (tgt := 20) hx hb dX4_ground_13 (by decide) (fun c9 => absurd c9 (by decide)) (fun _ => ?_)
  refine lv_iconst (v := 1) hx hb dX4_ground_16 (by decide) ?_
  refine lv_goto (tgt := 21) hx hb dX4_ground_17 (by decide) ?_
  refine lv_istore (lv' := [(7, .int 1), (0, .ref (ad 30 0)), (1, .int (nI k)), (2, .int (nI n)), (3, .int a2), (4, .int a3), (5, .int a4), (6, .int a5)]) hx hb dX4_ground_21 hl (by decide) rfl (fun ls hl => ?_)
  refine lv_iload_n hx hb dX4_ground_23 rfl (lv_at hl 4 rfl) ?_
  refine lv_iconst (v := 0) hx hb dX4_ground_24 (by decide) ?_
  refine lv_bipush (v := 9) hx hb dX4_ground_25 (by decide) ?_
  refine m_cpi (m_rS (As := [.int a2, .int 0, .int 9]) (rest := []) hcf (k_X4_within l g A (mwM g ad x) a2 0 9) (va_cwS 3 hts (lw_S q1044 q1045 q41 q1046) rfl rfl rfl (by decide +kernel) ⟨Nat.le_of_ble_eq_true rfl, Nat.le_of_ble_eq_true rfl⟩) hE hA hM hS rfl hl.1 rfl (Nat.le_of_ble_eq_true rfl) dX4_ground_27 ⟨Nat.le_of_ble_eq_true rfl, Nat.le_of_ble_eq_true rfl⟩) hS (fun H locs hM hS => ?_)
  have J_26 : ∀ (H : Heap) (locs : List Loc) (v_24 : Int32), mW g.1 A (mwM g ad x) H → va_S A s.heap H locs → ((if (inF a2 0 9) = 0 then 0 else (if (inF a3 0 9) = 0 then 0 else (if (inF a4 (-5000) 30000) = 0 then 0 else (if (inF a5 0 1000) = 0 then 0 else 1)))) = v_24) → W p l e rm_X4_ground_ok s m args below meth c H locs 0 0 Q (F0 m 75 ls [.int v_24]) := by
    intro H locs v_24 hM hS ev_25
    refine lv_istore (lv' := [(8, .int v_24), (7, .int 1), (0, .ref (ad 30 0)), (1, .int (nI k)), (2, .int (nI n)), (3, .int a2), (4, .int a3), (5, .int a4), (6, .int a5)]) hx hb dX4_ground_75 hl (by decide) rfl (fun ls hl => ?_)
    refine lv_aload_n hx hb dX4_ground_77 rfl (lv_at hl 2 rfl) ?_
    refine lv_iload hx hb dX4_ground_78 (lv_at hl 1 rfl) ?_
    refine lv_if_ne (tgt := 87) hx hb dX4_ground_80 (by decide) (fun _ => ?_) (fun c9 => absurd c9 (by decide))
    refine lv_iload hx hb dX4_ground_87 (lv_at hl 0 rfl) ?_
    have J_31 : ∀ (v_29 : Int32), ((if v_24 = 0 then 2 else 0) = v_29) → W p l e rm_X4_ground_ok s m args below meth c H locs 0 0 Q (F0 m 97 ls [.int v_29, .ref (ad 30 0)]) := by
      intro v_29 ev_30
      refine m_topI (y := 0) ((by subst ev_30 ev_25; exact hw)) ?_
      refine m_cpi (m_rV (As := [.int 0]) (rest := []) hcf (k_X4_refused l g A ad x 0) (cwV 1 hts (lw_V q1047 q1049 qs16 q41 q1050) rfl rfl rfl (by decide +kernel) ⟨Nat.le_of_ble_eq_true rfl, Nat.le_of_ble_eq_true rfl⟩) hE hA hM hS 30 0 (mwM_o g ad _) (ci := 1) rfl rfl hl.1 rfl (Nat.le_of_ble_eq_true rfl) dX4_ground_97 ⟨Nat.le_of_ble_eq_true rfl, Nat.le_of_ble_eq_true rfl⟩) hS (fun H locs hM hS => ?_)
      obtain ⟨x_34, ex_35⟩ : ∃ z : St, sI x 0 0 0 = z := ⟨_, rfl⟩
      rw [ex_35] at hM
      refine m_topI (y := 0) (by decide) ?_
      refine lv_if_eq (tgt := 104) hx hb dX4_ground_100 (by decide) (fun _ => ?_) (fun c9 => absurd (by decide) c9)
      refine lv_iconst (v := 5) hx hb dX4_ground_104 (by decide) ?_
      refine lv_iload_n hx hb dX4_ground_105 rfl (lv_at hl 3 rfl) ?_
      refine lv_imul hx hb dX4_ground_106 ?_
      refine m_topI (y := nI (5 * k)) (pk_mul 5 k) ?_
      refine lv_iload_n hx hb dX4_ground_107 rfl (lv_at hl 4 rfl) ?_
      refine lv_iadd hx hb dX4_ground_108 ?_
      refine m_topI (y := nI ((5 * k) + n)) (nI_add (5 * k) n) ?_
      refine lv_istore (lv' := [(9, .int (nI ((5 * k) + n))), (8, .int v_24), (7, .int 1), (0, .ref (ad 30 0)), (1, .int (nI k)), (2, .int (nI n)), (3, .int a2), (4, .int a3), (5, .int a4), (6, .int a5)]) hx hb dX4_ground_109 hl (by decide) rfl (fun ls hl => ?_)
      refine lv_aload_n hx hb dX4_ground_111 rfl (lv_at hl 3 rfl) ?_
      refine lv_dup hx hb dX4_ground_112 rfl ?_
      refine mm_get hcf hE hM 26 (by decide) q962 rfl rfl dX4_ground_113 ?_
      refine lv_iload hx hb dX4_ground_116 (lv_at hl 8 rfl) ?_
      refine lv_aload_n hx hb dX4_ground_118 rfl (lv_at hl 3 rfl) ?_
      refine mm_get hcf hE hM 10 (by decide) q946 rfl rfl dX4_ground_119 ?_
      refine lv_iload hx hb dX4_ground_122 (lv_at hl 0 rfl) ?_
      refine mm_ald hcf hE hM 10 rfl (by decide) ((5 * k) + n) (by show _ < 125; omega) rfl dX4_ground_124 ?_
      refine lv_isub hx hb dX4_ground_125 ?_
      refine lv_i2l hx hb dX4_ground_126 rfl ?_
      refine lv_ladd hx hb dX4_ground_127 ?_
      refine mm_putl hcf hE hM hS 26 (by decide) q962 rfl rfl rfl ((x_34.2 26) + ((a4 - (x_34.1 10 ((5 * k) + n))).toInt64)) rfl dX4_ground_128 (fun x_38 H locs ex_39 hM hS => ?_)
      refine lv_aload_n hx hb dX4_ground_131 rfl (lv_at hl 3 rfl) ?_
      refine lv_dup hx hb dX4_ground_132 rfl ?_
      refine mm_get hcf hE hM 27 (by decide) q963 rfl rfl dX4_ground_133 ?_
      refine lv_iload_n hx hb dX4_ground_136 rfl (lv_at hl 6 rfl) ?_
      refine lv_iload hx hb dX4_ground_137 (lv_at hl 7 rfl) ?_
      refine lv_iadd hx hb dX4_ground_139 ?_
      refine lv_aload_n hx hb dX4_ground_140 rfl (lv_at hl 3 rfl) ?_
      refine mm_get hcf hE hM 8 (by decide) q944 rfl rfl dX4_ground_141 ?_
      refine lv_iload hx hb dX4_ground_144 (lv_at hl 0 rfl) ?_
      refine mm_ald hcf hE hM 8 rfl (by decide) ((5 * k) + n) (by show _ < 125; omega) rfl dX4_ground_146 ?_
      refine lv_isub hx hb dX4_ground_147 ?_
      refine lv_aload_n hx hb dX4_ground_148 rfl (lv_at hl 3 rfl) ?_
      refine mm_get hcf hE hM 9 (by decide) q945 rfl rfl dX4_ground_149 ?_
      refine lv_iload hx hb dX4_ground_152 (lv_at hl 0 rfl) ?_
      refine mm_ald hcf hE hM 9 rfl (by decide) ((5 * k) + n) (by show _ < 125; omega) rfl dX4_ground_154 ?_
      refine lv_isub hx hb dX4_ground_155 ?_
      refine lv_i2l hx hb dX4_ground_156 rfl ?_
      refine lv_ladd hx hb dX4_ground_157 ?_
      refine mm_putl hcf hE hM hS 27 (by decide) q963 rfl rfl rfl ((x_38.2 27) + ((((a2 + a3) - (x_38.1 8 ((5 * k) + n))) - (x_38.1 9 ((5 * k) + n))).toInt64)) rfl dX4_ground_158 (fun x_40 H locs ex_41 hM hS => ?_)
      refine lv_aload_n hx hb dX4_ground_161 rfl (lv_at hl 3 rfl) ?_
      refine lv_dup hx hb dX4_ground_162 rfl ?_
      refine mm_get hcf hE hM 28 (by decide) q964 rfl rfl dX4_ground_163 ?_
      refine lv_iload hx hb dX4_ground_166 (lv_at hl 9 rfl) ?_
      refine lv_aload_n hx hb dX4_ground_168 rfl (lv_at hl 3 rfl) ?_
      refine mm_get hcf hE hM 11 (by decide) q947 rfl rfl dX4_ground_169 ?_
      refine lv_iload hx hb dX4_ground_172 (lv_at hl 0 rfl) ?_
      refine mm_ald hcf hE hM 11 rfl (by decide) ((5 * k) + n) (by show _ < 125; omega) rfl dX4_ground_174 ?_
      refine lv_isub hx hb dX4_ground_175 ?_
      refine lv_i2l hx hb dX4_ground_176 rfl ?_
      refine lv_ladd hx hb dX4_ground_177 ?_
      refine mm_putl hcf hE hM hS 28 (by decide) q964 rfl rfl rfl ((x_40.2 28) + ((a5 - (x_40.1 11 ((5 * k) + n))).toInt64)) rfl dX4_ground_178 (fun x_42 H locs ex_43 hM hS => ?_)
      refine lv_aload_n hx hb dX4_ground_181 rfl (lv_at hl 3 rfl) ?_
      refine mm_get hcf hE hM 8 (by decide) q944 rfl rfl dX4_ground_182 ?_
      refine lv_iload hx hb dX4_ground_185 (lv_at hl 0 rfl) ?_
      refine lv_iload_n hx hb dX4_ground_187 rfl (lv_at hl 6 rfl) ?_
      refine mm_ast hcf hE hM hS 8 rfl (by decide) ((5 * k) + n) (by show _ < 125; omega) rfl dX4_ground_188 (fun x_44 H locs ex_45 hM hS => ?_)
      refine lv_aload_n hx hb dX4_ground_189 rfl (lv_at hl 3 rfl) ?_
      refine mm_get hcf hE hM 9 (by decide) q945 rfl rfl dX4_ground_190 ?_
      refine lv_iload hx hb dX4_ground_193 (lv_at hl 0 rfl) ?_
      refine lv_iload hx hb dX4_ground_195 (lv_at hl 7 rfl) ?_
      refine mm_ast hcf hE hM hS 9 rfl (by decide) ((5 * k) + n) (by show _ < 125; omega) rfl dX4_ground_197 (fun x_46 H locs ex_47 hM hS => ?_)
      refine lv_aload_n hx hb dX4_ground_198 rfl (lv_at hl 3 rfl) ?_
      refine mm_get hcf hE hM 10 (by decide) q946 rfl rfl dX4_ground_199 ?_
      refine lv_iload hx hb dX4_ground_202 (lv_at hl 0 rfl) ?_
      refine lv_iload hx hb dX4_ground_204 (lv_at hl 8 rfl) ?_
      refine mm_ast hcf hE hM hS 10 rfl (by decide) ((5 * k) + n) (by show _ < 125; omega) rfl dX4_ground_206 (fun x_48 H locs ex_49 hM hS => ?_)
      refine lv_aload_n hx hb dX4_ground_207 rfl (lv_at hl 3 rfl) ?_
      refine mm_get hcf hE hM 11 (by decide) q947 rfl rfl dX4_ground_208 ?_
      refine lv_iload hx hb dX4_ground_211 (lv_at hl 0 rfl) ?_
      refine lv_iload hx hb dX4_ground_213 (lv_at hl 9 rfl) ?_
      refine mm_ast hcf hE hM hS 11 rfl (by decide) ((5 * k) + n) (by show _ < 125; omega) rfl dX4_ground_215 (fun x_50 H locs ex_51 hM hS => ?_)
      rw [← hQ]
      exact m_vret () hx hb hr hlk (by have hF : x_50 = groF (sI x 0 0 0) (5 * k + n) a2 a3 a4 a5 := (by subst ex_51 ex_49 ex_47 ex_45 ex_43 ex_41 ex_39 ex_35 ev_30 ev_25; first | rfl); rw [← hF]; exact hM) hS trivial (by first | decide | omega) (by first | decide | omega) dX4_ground_216
    refine lv_if_ne (tgt := 96) hx hb dX4_ground_89 (by decide) (fun c_28 => ?_) (fun c_28 => ?_)
    · refine lv_iconst (v := 0) hx hb dX4_ground_96 (by decide) ?_
      exact J_31 _ (by first | rfl | (rw [if_neg c_28]) | (simp only [c_28, if_true, if_false, ite_true, ite_false, not_false_eq_true, reduceIte]))
    · refine lv_iconst (v := 2) hx hb dX4_ground_92 (by decide) ?_
      refine lv_goto (tgt := 97) hx hb dX4_ground_93 (by decide) ?_
      exact J_31 _ (by first | rfl | (rw [if_pos c_28]) | (simp only [c_28, if_true, if_false, ite_true, ite_false, not_false_eq_true, reduceIte]))
  refine lv_if_eq (tgt := 74) hx hb dX4_ground_30 (by decide) (fun c_11 => ?_) (fun c_11 => ?_)
  · refine lv_iconst (v := 0) hx hb dX4_ground_74 (by decide) ?_
    exact J_26 H locs _ hM hS (by first | rfl | (rw [if_pos c_11]) | (simp only [c_11, if_true, if_false, ite_true, ite_false, not_false_eq_true, reduceIte]))
  · refine lv_iload hx hb dX4_ground_33 (lv_at hl 5 rfl) ?_
    refine lv_iconst (v := 0) hx hb dX4_ground_35 (by decide) ?_
    refine lv_bipush (v := 9) hx hb dX4_ground_36 (by decide) ?_
    refine m_cpi (m_rS (As := [.int a3, .int 0, .int 9]) (rest := []) hcf (k_X4_within l g A (mwM g ad x) a3 0 9) (va_cwS 3 hts (lw_S q1044 q1045 q41 q1046) rfl rfl rfl (by decide +kernel) ⟨Nat.le_of_ble_eq_true rfl, Nat.le_of_ble_eq_true rfl⟩) hE hA hM hS rfl hl.1 rfl (Nat.le_of_ble_eq_true rfl) dX4_ground_38 ⟨Nat.le_of_ble_eq_true rfl, Nat.le_of_ble_eq_true rfl⟩) hS (fun H locs hM hS => ?_)
    refine lv_if_eq (tgt := 74) hx hb dX4_ground_41 (by decide) (fun c_15 => ?_) (fun c_15 => ?_)
    · refine lv_iconst (v := 0) hx hb dX4_ground_74 (by decide) ?_
      exact J_26 H locs _ hM hS (by first | rfl | (rw [if_neg c_11, if_pos c_15]) | (simp only [c_11, c_15, if_true, if_false, ite_true, ite_false, not_false_eq_true, reduceIte]))
    · refine lv_iload hx hb dX4_ground_44 (lv_at hl 6 rfl) ?_
      refine lv_sipush (v := (-5000)) hx hb dX4_ground_46 (by decide) ?_
      refine lv_sipush (v := 30000) hx hb dX4_ground_49 (by decide) ?_
      refine m_cpi (m_rS (As := [.int a4, .int (-5000), .int 30000]) (rest := []) hcf (k_X4_within l g A (mwM g ad x) a4 (-5000) 30000) (va_cwS 3 hts (lw_S q1044 q1045 q41 q1046) rfl rfl rfl (by decide +kernel) ⟨Nat.le_of_ble_eq_true rfl, Nat.le_of_ble_eq_true rfl⟩) hE hA hM hS rfl hl.1 rfl (Nat.le_of_ble_eq_true rfl) dX4_ground_52 ⟨Nat.le_of_ble_eq_true rfl, Nat.le_of_ble_eq_true rfl⟩) hS (fun H locs hM hS => ?_)
      refine lv_if_eq (tgt := 74) hx hb dX4_ground_55 (by decide) (fun c_19 => ?_) (fun c_19 => ?_)
      · refine lv_iconst (v := 0) hx hb dX4_ground_74 (by decide) ?_
        exact J_26 H locs _ hM hS (by first | rfl | (rw [if_neg c_11, if_neg c_15, if_pos c_19]) | (simp only [c_11, c_15, c_19, if_true, if_false, ite_true, ite_false, not_false_eq_true, reduceIte]))
      · refine lv_iload hx hb dX4_ground_58 (lv_at hl 7 rfl) ?_
        refine lv_iconst (v := 0) hx hb dX4_ground_60 (by decide) ?_
        refine lv_sipush (v := 1000) hx hb dX4_ground_61 (by decide) ?_
        refine m_cpi (m_rS (As := [.int a5, .int 0, .int 1000]) (rest := []) hcf (k_X4_within l g A (mwM g ad x) a5 0 1000) (va_cwS 3 hts (lw_S q1044 q1045 q41 q1046) rfl rfl rfl (by decide +kernel) ⟨Nat.le_of_ble_eq_true rfl, Nat.le_of_ble_eq_true rfl⟩) hE hA hM hS rfl hl.1 rfl (Nat.le_of_ble_eq_true rfl) dX4_ground_64 ⟨Nat.le_of_ble_eq_true rfl, Nat.le_of_ble_eq_true rfl⟩) hS (fun H locs hM hS => ?_)
        refine lv_if_eq (tgt := 74) hx hb dX4_ground_67 (by decide) (fun c_23 => ?_) (fun c_23 => ?_)
        · refine lv_iconst (v := 0) hx hb dX4_ground_74 (by decide) ?_
          exact J_26 H locs _ hM hS (by first | rfl | (rw [if_neg c_11, if_neg c_15, if_neg c_19, if_pos c_23]) | (simp only [c_11, c_15, c_19, c_23, if_true, if_false, ite_true, ite_false, not_false_eq_true, reduceIte]))
        · refine lv_iconst (v := 1) hx hb dX4_ground_70 (by decide) ?_
          refine lv_goto (tgt := 75) hx hb dX4_ground_71 (by decide) ?_
          exact J_26 H locs _ hM hS (by first | rfl | (rw [if_neg c_11, if_neg c_15, if_neg c_19, if_neg c_23]) | (simp only [c_11, c_15, c_19, c_23, if_true, if_false, ite_true, ite_false, not_false_eq_true, reduceIte]))


def why_moss (a0 a1 : Int32) : Int32 := (if (inF a0 0 24) = 0 then 1 else (if (inF a1 0 3) = 0 then 2 else 0) : Int32)
abbrev rm_X4_moss_no : Room := { frames := 2, cells := 0, slots := 0, locals := 42 }
set_option maxHeartbeats 400000 in
theorem k_X4_moss_no (l : Launch) (g : GG) (A : Nat → Prop) (ad : Nat → Nat → Nat) (x : St) (a0 a1 : Int32) (w : Int32) (hw : why_moss a0 a1 = w) (hw0 : ¬ w = 0) : Met l yX4_moss (ws_ yX4_moss cX4_moss 4 (some .int)) rm_X4_moss_no (va_Pc [.ref (ad 30 0), .int a0, .int a1] (mPre g A (mwM g ad x))) (pQi g A 0 (mwM g ad (sI x 0 0 w))) 0 0 A := by
  refine m_start RX4 rfl (by decide) (Nat.le_of_ble_eq_true rfl) ?_
  intro p e s m args below meth c hcf hr hlk hnm hE hA H locs hM hS ls hl
  have hx := hcf.1
  have hb := hcf.2.1
  have hml := hcf.2.2.1
  have hown := hcf.2.2.2.1
  have hts := hcf.2.2.2.2
  have hl : lv_has ls 4 [(0, .ref (ad 30 0)), (1, .int a0), (2, .int a1)] := hl
  generalize hQ : MQ below (pQi g A 0 (mwM g ad (sI x 0 0 w))) args s 0 0 A = Q
  refine lv_aload_n hx hb dX4_moss_0 rfl (lv_at hl 0 rfl) ?_
  refine lv_iload_n hx hb dX4_moss_1 rfl (lv_at hl 1 rfl) ?_
  refine m_cpi (m_rS (As := [.int a0]) (rest := [.ref (ad 30 0)]) hcf (k_X4_isCell l g A (mwM g ad x) a0) (va_cwS 1 hts (lw_S q1041 q1042 q41 q1043) rfl rfl rfl (by decide +kernel) ⟨Nat.le_of_ble_eq_true rfl, Nat.le_of_ble_eq_true rfl⟩) hE hA hM hS rfl hl.1 rfl (Nat.le_of_ble_eq_true rfl) dX4_moss_2 ⟨Nat.le_of_ble_eq_true rfl, Nat.le_of_ble_eq_true rfl⟩) hS (fun H locs hM hS => ?_)
  have J_11 : ∀ (H : Heap) (locs : List Loc) (v_9 : Int32), mW g.1 A (mwM g ad x) H → va_S A s.heap H locs → ((if (inF a0 0 24) = 0 then 1 else (if (inF a1 0 3) = 0 then 2 else 0)) = v_9) → W p l e rm_X4_moss_no s m args below meth c H locs 0 0 Q (F0 m 26 ls [.int v_9, .ref (ad 30 0)]) := by
    intro H locs v_9 hM hS ev_10
    refine m_topI (y := w) ((by subst ev_10; exact hw)) ?_
    refine m_cpi (m_rV (As := [.int w]) (rest := []) hcf (k_X4_refused l g A ad x w) (cwV 1 hts (lw_V q1047 q1049 qs16 q41 q1050) rfl rfl rfl (by decide +kernel) ⟨Nat.le_of_ble_eq_true rfl, Nat.le_of_ble_eq_true rfl⟩) hE hA hM hS 30 0 (mwM_o g ad _) (ci := 1) rfl rfl hl.1 rfl (Nat.le_of_ble_eq_true rfl) dX4_moss_26 ⟨Nat.le_of_ble_eq_true rfl, Nat.le_of_ble_eq_true rfl⟩) hS (fun H locs hM hS => ?_)
    obtain ⟨x_14, ex_15⟩ : ∃ z : St, sI x 0 0 w = z := ⟨_, rfl⟩
    rw [ex_15] at hM
    refine lv_if_eq (tgt := 34) hx hb dX4_moss_29 (by decide) (fun c9 => absurd c9 (refF_ne hw0)) (fun _ => ?_)
    refine lv_iconst (v := 0) hx hb dX4_moss_32 (by decide) ?_
    rw [← hQ]
    exact m_iret () hx hb hr rfl hlk (by have hF : x_14 = sI x 0 0 w := (by subst ex_15 ev_10; first | rfl); rw [← hF]; exact hM) hS (by subst ex_15 ev_10; first | rfl) (by first | decide | omega) (by first | decide | omega) dX4_moss_33
  refine lv_if_ne (tgt := 12) hx hb dX4_moss_5 (by decide) (fun c_4 => ?_) (fun c_4 => ?_)
  · refine lv_iload_n hx hb dX4_moss_12 rfl (lv_at hl 2 rfl) ?_
    refine lv_iconst (v := 0) hx hb dX4_moss_13 (by decide) ?_
    refine lv_iconst (v := 3) hx hb dX4_moss_14 (by decide) ?_
    refine m_cpi (m_rS (As := [.int a1, .int 0, .int 3]) (rest := [.ref (ad 30 0)]) hcf (k_X4_within l g A (mwM g ad x) a1 0 3) (va_cwS 3 hts (lw_S q1044 q1045 q41 q1046) rfl rfl rfl (by decide +kernel) ⟨Nat.le_of_ble_eq_true rfl, Nat.le_of_ble_eq_true rfl⟩) hE hA hM hS rfl hl.1 rfl (Nat.le_of_ble_eq_true rfl) dX4_moss_15 ⟨Nat.le_of_ble_eq_true rfl, Nat.le_of_ble_eq_true rfl⟩) hS (fun H locs hM hS => ?_)
    refine lv_if_ne (tgt := 25) hx hb dX4_moss_18 (by decide) (fun c_8 => ?_) (fun c_8 => ?_)
    · refine lv_iconst (v := 0) hx hb dX4_moss_25 (by decide) ?_
      exact J_11 H locs _ hM hS (by first | rfl | (rw [if_neg c_4, if_neg c_8]) | (simp only [c_4, c_8, if_true, if_false, ite_true, ite_false, not_false_eq_true, reduceIte]))
    · refine lv_iconst (v := 2) hx hb dX4_moss_21 (by decide) ?_
      refine lv_goto (tgt := 26) hx hb dX4_moss_22 (by decide) ?_
      exact J_11 H locs _ hM hS (by first | rfl | (rw [if_neg c_4, if_pos c_8]) | (simp only [c_4, c_8, if_true, if_false, ite_true, ite_false, not_false_eq_true, reduceIte]))
  · refine lv_iconst (v := 1) hx hb dX4_moss_8 (by decide) ?_
    refine lv_goto (tgt := 26) hx hb dX4_moss_9 (by decide) ?_
    exact J_11 H locs _ hM hS (by first | rfl | (rw [if_pos c_4]) | (simp only [c_4, if_true, if_false, ite_true, ite_false, not_false_eq_true, reduceIte]))


def why_moss_k (a1 : Int32) : Int32 := (if (inF a1 0 3) = 0 then 2 else 0 : Int32)
abbrev rm_X4_moss_ok : Room := { frames := 2, cells := 0, slots := 0, locals := 42 }
set_option maxHeartbeats 400000 in
theorem k_X4_moss_ok (l : Launch) (g : GG) (A : Nat → Prop) (ad : Nat → Nat → Nat) (x : St) (k : Nat) (hk : k < 25) (a1 : Int32) (hw : why_moss_k a1 = 0) : Met l yX4_moss (ws_ yX4_moss cX4_moss 4 (some .int)) rm_X4_moss_ok (va_Pc [.ref (ad 30 0), .int (nI k), .int a1] (mPre g A (mwM g ad x))) (pQi g A (x.1 5 k) (mwM g ad (mosF (sI x 0 0 0) k a1))) 0 0 A := by
  refine m_start RX4 rfl (by decide) (Nat.le_of_ble_eq_true rfl) ?_
  intro p e s m args below meth c hcf hr hlk hnm hE hA H locs hM hS ls hl
  have hx := hcf.1
  have hb := hcf.2.1
  have hml := hcf.2.2.1
  have hown := hcf.2.2.2.1
  have hts := hcf.2.2.2.2
  have hl : lv_has ls 4 [(0, .ref (ad 30 0)), (1, .int (nI k)), (2, .int a1)] := hl
  generalize hQ : MQ below (pQi g A (x.1 5 k) (mwM g ad (mosF (sI x 0 0 0) k a1))) args s 0 0 A = Q
  refine lv_aload_n hx hb dX4_moss_0 rfl (lv_at hl 0 rfl) ?_
  refine lv_iload_n hx hb dX4_moss_1 rfl (lv_at hl 1 rfl) ?_
  refine m_cpi (m_rS (As := [.int (nI k)]) (rest := [.ref (ad 30 0)]) hcf (k_X4_isCell l g A (mwM g ad x) (nI k)) (va_cwS 1 hts (lw_S q1041 q1042 q41 q1043) rfl rfl rfl (by decide +kernel) ⟨Nat.le_of_ble_eq_true rfl, Nat.le_of_ble_eq_true rfl⟩) hE hA hM hS rfl hl.1 rfl (Nat.le_of_ble_eq_true rfl) dX4_moss_2 ⟨Nat.le_of_ble_eq_true rfl, Nat.le_of_ble_eq_true rfl⟩) hS (fun H locs hM hS => ?_)
  refine m_topI (y := 1) (inF_cell hk) ?_
  refine lv_if_ne (tgt := 12) hx hb dX4_moss_5 (by decide) (fun _ => ?_) (fun c9 => absurd c9 (by decide))
  refine lv_iload_n hx hb dX4_moss_12 rfl (lv_at hl 2 rfl) ?_
  refine lv_iconst (v := 0) hx hb dX4_moss_13 (by decide) ?_
  refine lv_iconst (v := 3) hx hb dX4_moss_14 (by decide) ?_
  refine m_cpi (m_rS (As := [.int a1, .int 0, .int 3]) (rest := [.ref (ad 30 0)]) hcf (k_X4_within l g A (mwM g ad x) a1 0 3) (va_cwS 3 hts (lw_S q1044 q1045 q41 q1046) rfl rfl rfl (by decide +kernel) ⟨Nat.le_of_ble_eq_true rfl, Nat.le_of_ble_eq_true rfl⟩) hE hA hM hS rfl hl.1 rfl (Nat.le_of_ble_eq_true rfl) dX4_moss_15 ⟨Nat.le_of_ble_eq_true rfl, Nat.le_of_ble_eq_true rfl⟩) hS (fun H locs hM hS => ?_)
  have J_10 : ∀ (v_8 : Int32), ((if (inF a1 0 3) = 0 then 2 else 0) = v_8) → W p l e rm_X4_moss_ok s m args below meth c H locs 0 0 Q (F0 m 26 ls [.int v_8, .ref (ad 30 0)]) := by
    intro v_8 ev_9
    refine m_topI (y := 0) ((by subst ev_9; exact hw)) ?_
    refine m_cpi (m_rV (As := [.int 0]) (rest := []) hcf (k_X4_refused l g A ad x 0) (cwV 1 hts (lw_V q1047 q1049 qs16 q41 q1050) rfl rfl rfl (by decide +kernel) ⟨Nat.le_of_ble_eq_true rfl, Nat.le_of_ble_eq_true rfl⟩) hE hA hM hS 30 0 (mwM_o g ad _) (ci := 1) rfl rfl hl.1 rfl (Nat.le_of_ble_eq_true rfl) dX4_moss_26 ⟨Nat.le_of_ble_eq_true rfl, Nat.le_of_ble_eq_true rfl⟩) hS (fun H locs hM hS => ?_)
    obtain ⟨x_13, ex_14⟩ : ∃ z : St, sI x 0 0 0 = z := ⟨_, rfl⟩
    rw [ex_14] at hM
    refine m_topI (y := 0) (by decide) ?_
    refine lv_if_eq (tgt := 34) hx hb dX4_moss_29 (by decide) (fun _ => ?_) (fun c9 => absurd (by decide) c9)
    refine lv_aload_n hx hb dX4_moss_34 rfl (lv_at hl 0 rfl) ?_
    refine mm_get hcf hE hM 5 (by decide) q941 rfl rfl dX4_moss_35 ?_
    refine lv_iload_n hx hb dX4_moss_38 rfl (lv_at hl 1 rfl) ?_
    refine mm_ald hcf hE hM 5 rfl (by decide) k (by show _ < 25; omega) rfl dX4_moss_39 ?_
    refine lv_istore_n (lv' := [(3, .int (x_13.1 5 k)), (0, .ref (ad 30 0)), (1, .int (nI k)), (2, .int a1)]) hx hb dX4_moss_40 rfl hl (by decide) rfl (fun ls hl => ?_)
    refine lv_aload_n hx hb dX4_moss_41 rfl (lv_at hl 1 rfl) ?_
    refine mm_get hcf hE hM 5 (by decide) q941 rfl rfl dX4_moss_42 ?_
    refine lv_iload_n hx hb dX4_moss_45 rfl (lv_at hl 2 rfl) ?_
    refine lv_iload_n hx hb dX4_moss_46 rfl (lv_at hl 3 rfl) ?_
    refine mm_ast hcf hE hM hS 5 rfl (by decide) k (by show _ < 25; omega) rfl dX4_moss_47 (fun x_17 H locs ex_18 hM hS => ?_)
    refine lv_iload_n hx hb dX4_moss_48 rfl (lv_at hl 0 rfl) ?_
    rw [← hQ]
    exact m_iret () hx hb hr rfl hlk (by have hF : x_17 = mosF (sI x 0 0 0) k a1 := (by subst ex_18 ex_14 ev_9; first | rfl); rw [← hF]; exact hM) hS (by subst ex_18 ex_14 ev_9; first | rfl) (by first | decide | omega) (by first | decide | omega) dX4_moss_49
  refine lv_if_ne (tgt := 25) hx hb dX4_moss_18 (by decide) (fun c_7 => ?_) (fun c_7 => ?_)
  · refine lv_iconst (v := 0) hx hb dX4_moss_25 (by decide) ?_
    exact J_10 _ (by first | rfl | (rw [if_neg c_7]) | (simp only [c_7, if_true, if_false, ite_true, ite_false, not_false_eq_true, reduceIte]))
  · refine lv_iconst (v := 2) hx hb dX4_moss_21 (by decide) ?_
    refine lv_goto (tgt := 26) hx hb dX4_moss_22 (by decide) ?_
    exact J_10 _ (by first | rfl | (rw [if_pos c_7]) | (simp only [c_7, if_true, if_false, ite_true, ite_false, not_false_eq_true, reduceIte]))


def why_pass (x : St) (a0 a1 a2 : Int32) : Int32 := (if (if (inF a0 1 24) = 0 then 0 else (if (inF a1 (-50) 30) = 0 then 0 else (if (inF a2 0 9) = 0 then 0 else 1)) : Int32) = 0 then 1 else (if ((nI (nt x 1 0)) + a0) ≤ 600 then 0 else 2) : Int32)
abbrev rm_X4_pass_no : Room := { frames := 1, cells := 0, slots := 0, locals := 22 }
set_option maxHeartbeats 400000 in
theorem k_X4_pass_no (l : Launch) (g : GG) (A : Nat → Prop) (ad : Nat → Nat → Nat) (x : St) (hok : okM x) (a0 a1 a2 : Int32) (w : Int32) (hw : why_pass x a0 a1 a2 = w) (hw0 : ¬ w = 0) : Met l yX4_pass (ws_ yX4_pass cX4_pass 6 (some .int)) rm_X4_pass_no (va_Pc [.ref (ad 30 0), .int a0, .int a1, .int a2] (mPre g A (mwM g ad x))) (pQi g A 0 (mwM g ad (sI x 0 0 w))) 0 0 A := by
  refine m_start RX4 rfl (by decide) (Nat.le_of_ble_eq_true rfl) ?_
  intro p e s m args below meth c hcf hr hlk hnm hE hA H locs hM hS ls hl
  have hx := hcf.1
  have hb := hcf.2.1
  have hml := hcf.2.2.1
  have hown := hcf.2.2.2.1
  have hts := hcf.2.2.2.2
  have hl : lv_has ls 6 [(0, .ref (ad 30 0)), (1, .int a0), (2, .int a1), (3, .int a2)] := hl
  generalize hQ : MQ below (pQi g A 0 (mwM g ad (sI x 0 0 w))) args s 0 0 A = Q
  refine lv_iload_n hx hb dX4_pass_0 rfl (lv_at hl 1 rfl) ?_
  refine lv_iconst (v := 1) hx hb dX4_pass_1 (by decide) ?_
  refine lv_bipush (v := 24) hx hb dX4_pass_2 (by decide) ?_
  refine m_cpi (m_rS (As := [.int a0, .int 1, .int 24]) (rest := []) hcf (k_X4_within l g A (mwM g ad x) a0 1 24) (va_cwS 3 hts (lw_S q1044 q1045 q41 q1046) rfl rfl rfl (by decide +kernel) ⟨Nat.le_of_ble_eq_true rfl, Nat.le_of_ble_eq_true rfl⟩) hE hA hM hS rfl hl.1 rfl (Nat.le_of_ble_eq_true rfl) dX4_pass_4 ⟨Nat.le_of_ble_eq_true rfl, Nat.le_of_ble_eq_true rfl⟩) hS (fun H locs hM hS => ?_)
  have J_15 : ∀ (H : Heap) (locs : List Loc) (v_13 : Int32), mW g.1 A (mwM g ad x) H → va_S A s.heap H locs → ((if (inF a0 1 24) = 0 then 0 else (if (inF a1 (-50) 30) = 0 then 0 else (if (inF a2 0 9) = 0 then 0 else 1))) = v_13) → W p l e rm_X4_pass_no s m args below meth c H locs 0 0 Q (F0 m 36 ls [.int v_13]) := by
    intro H locs v_13 hM hS ev_14
    refine lv_istore (lv' := [(4, .int v_13), (0, .ref (ad 30 0)), (1, .int a0), (2, .int a1), (3, .int a2)]) hx hb dX4_pass_36 hl (by decide) rfl (fun ls hl => ?_)
    refine lv_aload_n hx hb dX4_pass_38 rfl (lv_at hl 1 rfl) ?_
    refine lv_iload hx hb dX4_pass_39 (lv_at hl 0 rfl) ?_
    have J_21 : ∀ (v_19 : Int32), ((if v_13 = 0 then 1 else (if ((nI (nt x 1 0)) + a0) ≤ 600 then 0 else 2)) = v_19) → W p l e rm_X4_pass_no s m args below meth c H locs 0 0 Q (F0 m 65 ls [.int v_19, .ref (ad 30 0)]) := by
      intro v_19 ev_20
      refine m_topI (y := w) ((by subst ev_20 ev_14; exact hw)) ?_
      refine m_cpi (m_rV (As := [.int w]) (rest := []) hcf (k_X4_refused l g A ad x w) (cwV 1 hts (lw_V q1047 q1049 qs16 q41 q1050) rfl rfl rfl (by decide +kernel) ⟨Nat.le_of_ble_eq_true rfl, Nat.le_of_ble_eq_true rfl⟩) hE hA hM hS 30 0 (mwM_o g ad _) (ci := 1) rfl rfl hl.1 rfl (Nat.le_of_ble_eq_true rfl) dX4_pass_65 ⟨Nat.le_of_ble_eq_true rfl, Nat.le_of_ble_eq_true rfl⟩) hS (fun H locs hM hS => ?_)
      obtain ⟨x_24, ex_25⟩ : ∃ z : St, sI x 0 0 w = z := ⟨_, rfl⟩
      rw [ex_25] at hM
      refine lv_if_eq (tgt := 73) hx hb dX4_pass_68 (by decide) (fun c9 => absurd c9 (refF_ne hw0)) (fun _ => ?_)
      refine lv_iconst (v := 0) hx hb dX4_pass_71 (by decide) ?_
      rw [← hQ]
      exact m_iret () hx hb hr rfl hlk (by have hF : x_24 = sI x 0 0 w := (by subst ex_25 ev_20 ev_14; first | rfl); rw [← hF]; exact hM) hS (by subst ex_25 ev_20 ev_14; first | rfl) (by first | decide | omega) (by first | decide | omega) dX4_pass_72
    refine lv_if_ne (tgt := 48) hx hb dX4_pass_41 (by decide) (fun c_17 => ?_) (fun c_17 => ?_)
    · refine lv_aload_n hx hb dX4_pass_48 rfl (lv_at hl 1 rfl) ?_
      refine mm_get hcf hE hM 1 (by decide) q937 rfl rfl dX4_pass_49 ?_
      refine m_topI (y := nI (nt x 1 0)) ((by subst ev_14; exact hok.h1.1)) ?_
      refine lv_iload_n hx hb dX4_pass_52 rfl (lv_at hl 2 rfl) ?_
      refine lv_iadd hx hb dX4_pass_53 ?_
      refine lv_sipush (v := 600) hx hb dX4_pass_54 (by decide) ?_
      refine lv_icmp_le (tgt := 64) hx hb dX4_pass_57 (by decide) (fun c_18 => ?_) (fun c_18 => ?_)
      · refine lv_iconst (v := 0) hx hb dX4_pass_64 (by decide) ?_
        exact J_21 _ (by first | rfl | (rw [if_neg c_17, if_pos c_18]) | (simp only [c_17, c_18, if_true, if_false, ite_true, ite_false, not_false_eq_true, reduceIte]))
      · refine lv_iconst (v := 2) hx hb dX4_pass_60 (by decide) ?_
        refine lv_goto (tgt := 65) hx hb dX4_pass_61 (by decide) ?_
        exact J_21 _ (by first | rfl | (rw [if_neg c_17, if_neg c_18]) | (simp only [c_17, c_18, if_true, if_false, ite_true, ite_false, not_false_eq_true, reduceIte]))
    · refine lv_iconst (v := 1) hx hb dX4_pass_44 (by decide) ?_
      refine lv_goto (tgt := 65) hx hb dX4_pass_45 (by decide) ?_
      exact J_21 _ (by first | rfl | (rw [if_pos c_17]) | (simp only [c_17, if_true, if_false, ite_true, ite_false, not_false_eq_true, reduceIte]))
  refine lv_if_eq (tgt := 35) hx hb dX4_pass_7 (by decide) (fun c_4 => ?_) (fun c_4 => ?_)
  · refine lv_iconst (v := 0) hx hb dX4_pass_35 (by decide) ?_
    exact J_15 H locs _ hM hS (by first | rfl | (rw [if_pos c_4]) | (simp only [c_4, if_true, if_false, ite_true, ite_false, not_false_eq_true, reduceIte]))
  · refine lv_iload_n hx hb dX4_pass_10 rfl (lv_at hl 2 rfl) ?_
    refine lv_bipush (v := (-50)) hx hb dX4_pass_11 (by decide) ?_
    refine lv_bipush (v := 30) hx hb dX4_pass_13 (by decide) ?_
    refine m_cpi (m_rS (As := [.int a1, .int (-50), .int 30]) (rest := []) hcf (k_X4_within l g A (mwM g ad x) a1 (-50) 30) (va_cwS 3 hts (lw_S q1044 q1045 q41 q1046) rfl rfl rfl (by decide +kernel) ⟨Nat.le_of_ble_eq_true rfl, Nat.le_of_ble_eq_true rfl⟩) hE hA hM hS rfl hl.1 rfl (Nat.le_of_ble_eq_true rfl) dX4_pass_15 ⟨Nat.le_of_ble_eq_true rfl, Nat.le_of_ble_eq_true rfl⟩) hS (fun H locs hM hS => ?_)
    refine lv_if_eq (tgt := 35) hx hb dX4_pass_18 (by decide) (fun c_8 => ?_) (fun c_8 => ?_)
    · refine lv_iconst (v := 0) hx hb dX4_pass_35 (by decide) ?_
      exact J_15 H locs _ hM hS (by first | rfl | (rw [if_neg c_4, if_pos c_8]) | (simp only [c_4, c_8, if_true, if_false, ite_true, ite_false, not_false_eq_true, reduceIte]))
    · refine lv_iload_n hx hb dX4_pass_21 rfl (lv_at hl 3 rfl) ?_
      refine lv_iconst (v := 0) hx hb dX4_pass_22 (by decide) ?_
      refine lv_bipush (v := 9) hx hb dX4_pass_23 (by decide) ?_
      refine m_cpi (m_rS (As := [.int a2, .int 0, .int 9]) (rest := []) hcf (k_X4_within l g A (mwM g ad x) a2 0 9) (va_cwS 3 hts (lw_S q1044 q1045 q41 q1046) rfl rfl rfl (by decide +kernel) ⟨Nat.le_of_ble_eq_true rfl, Nat.le_of_ble_eq_true rfl⟩) hE hA hM hS rfl hl.1 rfl (Nat.le_of_ble_eq_true rfl) dX4_pass_25 ⟨Nat.le_of_ble_eq_true rfl, Nat.le_of_ble_eq_true rfl⟩) hS (fun H locs hM hS => ?_)
      refine lv_if_eq (tgt := 35) hx hb dX4_pass_28 (by decide) (fun c_12 => ?_) (fun c_12 => ?_)
      · refine lv_iconst (v := 0) hx hb dX4_pass_35 (by decide) ?_
        exact J_15 H locs _ hM hS (by first | rfl | (rw [if_neg c_4, if_neg c_8, if_pos c_12]) | (simp only [c_4, c_8, c_12, if_true, if_false, ite_true, ite_false, not_false_eq_true, reduceIte]))
      · refine lv_iconst (v := 1) hx hb dX4_pass_31 (by decide) ?_
        refine lv_goto (tgt := 36) hx hb dX4_pass_32 (by decide) ?_
        exact J_15 H locs _ hM hS (by first | rfl | (rw [if_neg c_4, if_neg c_8, if_neg c_12]) | (simp only [c_4, c_8, c_12, if_true, if_false, ite_true, ite_false, not_false_eq_true, reduceIte]))


def why_pass_k (x : St) (n : Nat) (a1 a2 : Int32) : Int32 := (if (if (inF (nI n) 1 24) = 0 then 0 else (if (inF a1 (-50) 30) = 0 then 0 else (if (inF a2 0 9) = 0 then 0 else 1)) : Int32) = 0 then 1 else (if (nI (nt x 1 0 + n)) ≤ 600 then 0 else 2) : Int32)
abbrev rm_X4_pass_ok : Room := { frames := 4, cells := 0, slots := 0, locals := 88 }
set_option maxHeartbeats 400000 in
theorem k_X4_pass_ok (l : Launch) (g : GG) (A : Nat → Prop) (ad : Nat → Nat → Nat) (x : St) (hok : okM x) (n : Nat) (a1 a2 : Int32) (hf : okN a2 10) (hn : n ≤ 24) (hm : nt x 1 0 + n ≤ 600) (hw : why_pass_k x n a1 a2 = 0) : Met l yX4_pass (ws_ yX4_pass cX4_pass 6 (some .int)) rm_X4_pass_ok (va_Pc [.ref (ad 30 0), .int (nI n), .int a1, .int a2] (mPre g A (mwM g ad x))) (pQi g A ((pasL (sI x 0 0 0) a1 a2 n).1 1 0) (mwM g ad (pasL (sI x 0 0 0) a1 a2 n))) 0 0 A := by
  refine m_start RX4 rfl (by decide) (Nat.le_of_ble_eq_true rfl) ?_
  intro p e s m args below meth c hcf hr hlk hnm hE hA H locs hM hS ls hl
  have hx := hcf.1
  have hb := hcf.2.1
  have hml := hcf.2.2.1
  have hown := hcf.2.2.2.1
  have hts := hcf.2.2.2.2
  have hl : lv_has ls 6 [(0, .ref (ad 30 0)), (1, .int (nI n)), (2, .int a1), (3, .int a2)] := hl
  generalize hQ : MQ below (pQi g A ((pasL (sI x 0 0 0) a1 a2 n).1 1 0) (mwM g ad (pasL (sI x 0 0 0) a1 a2 n))) args s 0 0 A = Q
  refine lv_iload_n hx hb dX4_pass_0 rfl (lv_at hl 1 rfl) ?_
  refine lv_iconst (v := 1) hx hb dX4_pass_1 (by decide) ?_
  refine lv_bipush (v := 24) hx hb dX4_pass_2 (by decide) ?_
  refine m_cpi (m_rS (As := [.int (nI n), .int 1, .int 24]) (rest := []) hcf (k_X4_within l g A (mwM g ad x) (nI n) 1 24) (va_cwS 3 hts (lw_S q1044 q1045 q41 q1046) rfl rfl rfl (by decide +kernel) ⟨Nat.le_of_ble_eq_true rfl, Nat.le_of_ble_eq_true rfl⟩) hE hA hM hS rfl hl.1 rfl (Nat.le_of_ble_eq_true rfl) dX4_pass_4 ⟨Nat.le_of_ble_eq_true rfl, Nat.le_of_ble_eq_true rfl⟩) hS (fun H locs hM hS => ?_)
  have J_15 : ∀ (H : Heap) (locs : List Loc) (v_13 : Int32), mW g.1 A (mwM g ad x) H → va_S A s.heap H locs → ((if (inF (nI n) 1 24) = 0 then 0 else (if (inF a1 (-50) 30) = 0 then 0 else (if (inF a2 0 9) = 0 then 0 else 1))) = v_13) → W p l e rm_X4_pass_ok s m args below meth c H locs 0 0 Q (F0 m 36 ls [.int v_13]) := by
    intro H locs v_13 hM hS ev_14
    refine lv_istore (lv' := [(4, .int v_13), (0, .ref (ad 30 0)), (1, .int (nI n)), (2, .int a1), (3, .int a2)]) hx hb dX4_pass_36 hl (by decide) rfl (fun ls hl => ?_)
    refine lv_aload_n hx hb dX4_pass_38 rfl (lv_at hl 1 rfl) ?_
    refine lv_iload hx hb dX4_pass_39 (lv_at hl 0 rfl) ?_
    have J_21 : ∀ (v_19 : Int32), ((if v_13 = 0 then 1 else (if (nI (nt x 1 0 + n)) ≤ 600 then 0 else 2)) = v_19) → W p l e rm_X4_pass_ok s m args below meth c H locs 0 0 Q (F0 m 65 ls [.int v_19, .ref (ad 30 0)]) := by
      intro v_19 ev_20
      refine m_topI (y := 0) ((by subst ev_20 ev_14; exact hw)) ?_
      refine m_cpi (m_rV (As := [.int 0]) (rest := []) hcf (k_X4_refused l g A ad x 0) (cwV 1 hts (lw_V q1047 q1049 qs16 q41 q1050) rfl rfl rfl (by decide +kernel) ⟨Nat.le_of_ble_eq_true rfl, Nat.le_of_ble_eq_true rfl⟩) hE hA hM hS 30 0 (mwM_o g ad _) (ci := 1) rfl rfl hl.1 rfl (Nat.le_of_ble_eq_true rfl) dX4_pass_65 ⟨Nat.le_of_ble_eq_true rfl, Nat.le_of_ble_eq_true rfl⟩) hS (fun H locs hM hS => ?_)
      obtain ⟨x_24, ex_25⟩ : ∃ z : St, sI x 0 0 0 = z := ⟨_, rfl⟩
      rw [ex_25] at hM
      refine m_topI (y := 0) (by decide) ?_
      refine lv_if_eq (tgt := 73) hx hb dX4_pass_68 (by decide) (fun _ => ?_) (fun c9 => absurd (by decide) c9)
      refine lv_iconst (v := 0) hx hb dX4_pass_73 (by decide) ?_
      refine lv_istore (lv' := [(5, .int 0), (4, .int v_13), (0, .ref (ad 30 0)), (1, .int (nI n)), (2, .int a1), (3, .int a2)]) hx hb dX4_pass_74 hl (by decide) rfl (fun ls hl => ?_)
      have L_28 : ∀ (n9 i_28 : Nat), i_28 + n9 = n → ∀ (H : Heap) (locs : List Loc) (ls : Array Slot), mW g.1 A (mwM g ad (pasL (sI x 0 0 0) a1 a2 i_28)) H → va_S A s.heap H locs → lv_has ls 6 [(0, .ref (ad 30 0)), (1, .int (nI n)), (2, .int a1), (3, .int a2), (5, .int (nI i_28))] → W p l e rm_X4_pass_ok s m args below meth c H locs 0 0 Q (F0 m 76 ls []) := by
        intro n9
        induction n9 with
        | zero =>
          intro i_28 hi H locs ls hM hS hl 
          have hi : n = i_28 := by omega
          subst hi
          obtain ⟨x_30, ex_31⟩ : ∃ z : St, pasL (sI x 0 0 0) a1 a2 n = z := ⟨_, rfl⟩
          rw [ex_31] at hM
          refine lv_iload hx hb dX4_pass_76 (lv_at hl 4 rfl) ?_
          refine lv_iload_n hx hb dX4_pass_78 rfl (lv_at hl 1 rfl) ?_
          refine lv_icmp_ge (tgt := 94) hx hb dX4_pass_79 (by decide) (fun _ => ?_) (fun c9 => absurd (nI_le (Nat.le_refl _) (by omega)) c9)
          refine lv_aload_n hx hb dX4_pass_94 rfl (lv_at hl 0 rfl) ?_
          refine mm_get hcf hE hM 1 (by decide) q937 rfl rfl dX4_pass_95 ?_
          rw [← hQ]
          exact m_iret () hx hb hr rfl hlk (by have hF : x_30 = pasL (sI x 0 0 0) a1 a2 n := (by subst ex_31 ex_25 ev_20 ev_14; first | rfl); rw [← hF]; exact hM) hS (by subst ex_31 ex_25 ev_20 ev_14; first | rfl) (by first | decide | omega) (by first | decide | omega) dX4_pass_98
        | succ n9 ih =>
          intro i_28 hi H locs ls hM hS hl 
          have hlt_i_28 : i_28 < n := by omega
          obtain ⟨x_33, ex_34⟩ : ∃ z : St, pasL (sI x 0 0 0) a1 a2 i_28 = z := ⟨_, rfl⟩
          rw [ex_34] at hM
          obtain ⟨ho, hm8⟩ := ok_pasL (air := a1) (n := n) (ok_r0 hok 0) hf hm i_28 (by omega)
          rw [ex_34] at ho hm8
          have hm7 : nt (sI x 0 0 0) 1 0 = nt x 1 0 := rfl
          have hm9 : nt x_33 1 0 < 600 := by omega
          refine lv_iload hx hb dX4_pass_76 (lv_at hl 4 rfl) ?_
          refine lv_iload_n hx hb dX4_pass_78 rfl (lv_at hl 1 rfl) ?_
          refine lv_icmp_ge (tgt := 94) hx hb dX4_pass_79 (by decide) (fun c9 => absurd c9 (nI_ge (by omega) (by omega))) (fun _ => ?_)
          refine lv_aload_n hx hb dX4_pass_82 rfl (lv_at hl 0 rfl) ?_
          refine lv_iload_n hx hb dX4_pass_83 rfl (lv_at hl 2 rfl) ?_
          refine lv_iload_n hx hb dX4_pass_84 rfl (lv_at hl 3 rfl) ?_
          refine m_cpv (m_rV (As := [.int a1, .int a2]) (rest := []) hcf (k_X4_passOne l g A ad x_33 ho a1 a2 hf hm9) (cwV 2 hts (lw_V q1059 q1061 qs17 q41 q1062) rfl rfl rfl (by decide +kernel) ⟨Nat.le_of_ble_eq_true rfl, Nat.le_of_ble_eq_true rfl⟩) hE hA hM hS 30 0 (mwM_o g ad _) (ci := 1) rfl rfl hl.1 rfl (Nat.le_of_ble_eq_true rfl) dX4_pass_85 ⟨Nat.le_of_ble_eq_true rfl, Nat.le_of_ble_eq_true rfl⟩) hS (fun H locs hM hS => ?_)
          obtain ⟨x_37, ex_38⟩ : ∃ z : St, pasF x_33 a1 a2 = z := ⟨_, rfl⟩
          rw [ex_38] at hM
          refine lv_iinc (v := nI (i_28 + 1)) (lv' := [(5, .int (nI (i_28 + 1))), (0, .ref (ad 30 0)), (1, .int (nI n)), (2, .int a1), (3, .int a2)]) hx hb dX4_pass_88 hl (k := 4) rfl (nI_add i_28 1) (by decide) rfl (fun ls hl => ?_)
          refine lv_goto (tgt := 76) hx hb dX4_pass_91 (by decide) ?_
          exact ih (i_28 + 1) (by omega) H locs ls (by have hF : x_37 = pasL (sI x 0 0 0) a1 a2 (i_28 + 1) := (by subst ex_38 ex_34; exact (pasL_s _ _ _ _).symm); rw [← hF]; exact hM) hS (lv_sub hl [1, 2, 3, 4, 0] (by subst ex_38 ex_34; rfl))
      rw [← ex_25] at hM
      exact L_28 (n) 0 (by omega) H locs ls hM hS (lv_sub hl [2, 3, 4, 5, 0] rfl)
    refine lv_if_ne (tgt := 48) hx hb dX4_pass_41 (by decide) (fun c_17 => ?_) (fun c_17 => ?_)
    · refine lv_aload_n hx hb dX4_pass_48 rfl (lv_at hl 1 rfl) ?_
      refine mm_get hcf hE hM 1 (by decide) q937 rfl rfl dX4_pass_49 ?_
      refine m_topI (y := nI (nt x 1 0)) ((by subst ev_14; exact hok.h1.1)) ?_
      refine lv_iload_n hx hb dX4_pass_52 rfl (lv_at hl 2 rfl) ?_
      refine lv_iadd hx hb dX4_pass_53 ?_
      refine m_topI (y := nI (nt x 1 0 + n)) (nI_add (nt x 1 0) n) ?_
      refine lv_sipush (v := 600) hx hb dX4_pass_54 (by decide) ?_
      refine lv_icmp_le (tgt := 64) hx hb dX4_pass_57 (by decide) (fun c_18 => ?_) (fun c_18 => ?_)
      · refine lv_iconst (v := 0) hx hb dX4_pass_64 (by decide) ?_
        exact J_21 _ (by first | rfl | (rw [if_neg c_17, if_pos c_18]) | (simp only [c_17, c_18, if_true, if_false, ite_true, ite_false, not_false_eq_true, reduceIte]))
      · refine lv_iconst (v := 2) hx hb dX4_pass_60 (by decide) ?_
        refine lv_goto (tgt := 65) hx hb dX4_pass_61 (by decide) ?_
        exact J_21 _ (by first | rfl | (rw [if_neg c_17, if_neg c_18]) | (simp only [c_17, c_18, if_true, if_false, ite_true, ite_false, not_false_eq_true, reduceIte]))
    · refine lv_iconst (v := 1) hx hb dX4_pass_44 (by decide) ?_
      refine lv_goto (tgt := 65) hx hb dX4_pass_45 (by decide) ?_
      exact J_21 _ (by first | rfl | (rw [if_pos c_17]) | (simp only [c_17, if_true, if_false, ite_true, ite_false, not_false_eq_true, reduceIte]))
  refine lv_if_eq (tgt := 35) hx hb dX4_pass_7 (by decide) (fun c_4 => ?_) (fun c_4 => ?_)
  · refine lv_iconst (v := 0) hx hb dX4_pass_35 (by decide) ?_
    exact J_15 H locs _ hM hS (by first | rfl | (rw [if_pos c_4]) | (simp only [c_4, if_true, if_false, ite_true, ite_false, not_false_eq_true, reduceIte]))
  · refine lv_iload_n hx hb dX4_pass_10 rfl (lv_at hl 2 rfl) ?_
    refine lv_bipush (v := (-50)) hx hb dX4_pass_11 (by decide) ?_
    refine lv_bipush (v := 30) hx hb dX4_pass_13 (by decide) ?_
    refine m_cpi (m_rS (As := [.int a1, .int (-50), .int 30]) (rest := []) hcf (k_X4_within l g A (mwM g ad x) a1 (-50) 30) (va_cwS 3 hts (lw_S q1044 q1045 q41 q1046) rfl rfl rfl (by decide +kernel) ⟨Nat.le_of_ble_eq_true rfl, Nat.le_of_ble_eq_true rfl⟩) hE hA hM hS rfl hl.1 rfl (Nat.le_of_ble_eq_true rfl) dX4_pass_15 ⟨Nat.le_of_ble_eq_true rfl, Nat.le_of_ble_eq_true rfl⟩) hS (fun H locs hM hS => ?_)
    refine lv_if_eq (tgt := 35) hx hb dX4_pass_18 (by decide) (fun c_8 => ?_) (fun c_8 => ?_)
    · refine lv_iconst (v := 0) hx hb dX4_pass_35 (by decide) ?_
      exact J_15 H locs _ hM hS (by first | rfl | (rw [if_neg c_4, if_pos c_8]) | (simp only [c_4, c_8, if_true, if_false, ite_true, ite_false, not_false_eq_true, reduceIte]))
    · refine lv_iload_n hx hb dX4_pass_21 rfl (lv_at hl 3 rfl) ?_
      refine lv_iconst (v := 0) hx hb dX4_pass_22 (by decide) ?_
      refine lv_bipush (v := 9) hx hb dX4_pass_23 (by decide) ?_
      refine m_cpi (m_rS (As := [.int a2, .int 0, .int 9]) (rest := []) hcf (k_X4_within l g A (mwM g ad x) a2 0 9) (va_cwS 3 hts (lw_S q1044 q1045 q41 q1046) rfl rfl rfl (by decide +kernel) ⟨Nat.le_of_ble_eq_true rfl, Nat.le_of_ble_eq_true rfl⟩) hE hA hM hS rfl hl.1 rfl (Nat.le_of_ble_eq_true rfl) dX4_pass_25 ⟨Nat.le_of_ble_eq_true rfl, Nat.le_of_ble_eq_true rfl⟩) hS (fun H locs hM hS => ?_)
      refine lv_if_eq (tgt := 35) hx hb dX4_pass_28 (by decide) (fun c_12 => ?_) (fun c_12 => ?_)
      · refine lv_iconst (v := 0) hx hb dX4_pass_35 (by decide) ?_
        exact J_15 H locs _ hM hS (by first | rfl | (rw [if_neg c_4, if_neg c_8, if_pos c_12]) | (simp only [c_4, c_8, c_12, if_true, if_false, ite_true, ite_false, not_false_eq_true, reduceIte]))
      · refine lv_iconst (v := 1) hx hb dX4_pass_31 (by decide) ?_
        refine lv_goto (tgt := 36) hx hb dX4_pass_32 (by decide) ?_
        exact J_15 H locs _ hM hS (by first | rfl | (rw [if_neg c_4, if_neg c_8, if_neg c_12]) | (simp only [c_4, c_8, c_12, if_true, if_false, ite_true, ite_false, not_false_eq_true, reduceIte]))


def why_fire  : Int32 := 1
abbrev rm_X4_fire_no : Room := { frames := 2, cells := 0, slots := 0, locals := 42 }
set_option maxHeartbeats 400000 in
theorem k_X4_fire_no (l : Launch) (g : GG) (A : Nat → Prop) (ad : Nat → Nat → Nat) (x : St) (a0 : Int32) (h0 : inF a0 0 24 = 0) (w : Int32) (hw : why_fire  = w) (hw0 : ¬ w = 0) : Met l yX4_fire (ws_ yX4_fire cX4_fire 4 (some .int)) rm_X4_fire_no (va_Pc [.ref (ad 30 0), .int a0] (mPre g A (mwM g ad x))) (pQi g A 0 (mwM g ad (sI x 0 0 w))) 0 0 A := by
  refine m_start RX4 rfl (by decide) (Nat.le_of_ble_eq_true rfl) ?_
  intro p e s m args below meth c hcf hr hlk hnm hE hA H locs hM hS ls hl
  have hx := hcf.1
  have hb := hcf.2.1
  have hml := hcf.2.2.1
  have hown := hcf.2.2.2.1
  have hts := hcf.2.2.2.2
  have hl : lv_has ls 4 [(0, .ref (ad 30 0)), (1, .int a0)] := hl
  generalize hQ : MQ below (pQi g A 0 (mwM g ad (sI x 0 0 w))) args s 0 0 A = Q
  refine lv_iload_n hx hb dX4_fire_0 rfl (lv_at hl 1 rfl) ?_
  refine m_cpi (m_rS (As := [.int a0]) (rest := []) hcf (k_X4_isCell l g A (mwM g ad x) a0) (va_cwS 1 hts (lw_S q1041 q1042 q41 q1043) rfl rfl rfl (by decide +kernel) ⟨Nat.le_of_ble_eq_true rfl, Nat.le_of_ble_eq_true rfl⟩) hE hA hM hS rfl hl.1 rfl (Nat.le_of_ble_eq_true rfl) dX4_fire_1 ⟨Nat.le_of_ble_eq_true rfl, Nat.le_of_ble_eq_true rfl⟩) hS (fun H locs hM hS => ?_)
  refine m_topI (y := 0) (h0) ?_
  refine lv_istore_n (lv' := [(2, .int 0), (0, .ref (ad 30 0)), (1, .int a0)]) hx hb dX4_fire_4 rfl hl (by decide) rfl (fun ls hl => ?_)
  refine lv_aload_n hx hb dX4_fire_5 rfl (lv_at hl 1 rfl) ?_
  refine lv_iload_n hx hb dX4_fire_6 rfl (lv_at hl 0 rfl) ?_
  refine lv_if_ne (tgt := 14) hx hb dX4_fire_7 (by decide) (fun c9 => absurd (by decide) c9) (fun _ => ?_)
  refine lv_iconst (v := 1) hx hb dX4_fire_10 (by decide) ?_
  refine lv_goto (tgt := 36) hx hb dX4_fire_11 (by decide) ?_
  refine m_topI (y := w) (hw) ?_
  refine m_cpi (m_rV (As := [.int w]) (rest := []) hcf (k_X4_refused l g A ad x w) (cwV 1 hts (lw_V q1047 q1049 qs16 q41 q1050) rfl rfl rfl (by decide +kernel) ⟨Nat.le_of_ble_eq_true rfl, Nat.le_of_ble_eq_true rfl⟩) hE hA hM hS 30 0 (mwM_o g ad _) (ci := 1) rfl rfl hl.1 rfl (Nat.le_of_ble_eq_true rfl) dX4_fire_36 ⟨Nat.le_of_ble_eq_true rfl, Nat.le_of_ble_eq_true rfl⟩) hS (fun H locs hM hS => ?_)
  obtain ⟨x_7, ex_8⟩ : ∃ z : St, sI x 0 0 w = z := ⟨_, rfl⟩
  rw [ex_8] at hM
  refine lv_if_eq (tgt := 44) hx hb dX4_fire_39 (by decide) (fun c9 => absurd c9 (refF_ne hw0)) (fun _ => ?_)
  refine lv_iconst (v := 0) hx hb dX4_fire_42 (by decide) ?_
  rw [← hQ]
  exact m_iret () hx hb hr rfl hlk (by have hF : x_7 = sI x 0 0 w := (by subst ex_8; first | rfl); rw [← hF]; exact hM) hS (by subst ex_8; first | rfl) (by first | decide | omega) (by first | decide | omega) dX4_fire_43


def why_fire_k (x : St) (k : Nat) : Int32 := (if (lakF x k) = 0 then (if (x.1 4 k) ≤ 0 then 0 else 2) else 2 : Int32)
abbrev rm_X4_fire_nk : Room := { frames := 2, cells := 0, slots := 0, locals := 42 }
set_option maxHeartbeats 400000 in
theorem k_X4_fire_nk (l : Launch) (g : GG) (A : Nat → Prop) (ad : Nat → Nat → Nat) (x : St) (k : Nat) (hk : k < 25) (w : Int32) (hw : why_fire_k x k = w) (hw0 : ¬ w = 0) : Met l yX4_fire (ws_ yX4_fire cX4_fire 4 (some .int)) rm_X4_fire_nk (va_Pc [.ref (ad 30 0), .int (nI k)] (mPre g A (mwM g ad x))) (pQi g A 0 (mwM g ad (sI x 0 0 w))) 0 0 A := by
  refine m_start RX4 rfl (by decide) (Nat.le_of_ble_eq_true rfl) ?_
  intro p e s m args below meth c hcf hr hlk hnm hE hA H locs hM hS ls hl
  have hx := hcf.1
  have hb := hcf.2.1
  have hml := hcf.2.2.1
  have hown := hcf.2.2.2.1
  have hts := hcf.2.2.2.2
  have hl : lv_has ls 4 [(0, .ref (ad 30 0)), (1, .int (nI k))] := hl
  generalize hQ : MQ below (pQi g A 0 (mwM g ad (sI x 0 0 w))) args s 0 0 A = Q
  refine lv_iload_n hx hb dX4_fire_0 rfl (lv_at hl 1 rfl) ?_
  refine m_cpi (m_rS (As := [.int (nI k)]) (rest := []) hcf (k_X4_isCell l g A (mwM g ad x) (nI k)) (va_cwS 1 hts (lw_S q1041 q1042 q41 q1043) rfl rfl rfl (by decide +kernel) ⟨Nat.le_of_ble_eq_true rfl, Nat.le_of_ble_eq_true rfl⟩) hE hA hM hS rfl hl.1 rfl (Nat.le_of_ble_eq_true rfl) dX4_fire_1 ⟨Nat.le_of_ble_eq_true rfl, Nat.le_of_ble_eq_true rfl⟩) hS (fun H locs hM hS => ?_)
  refine m_topI (y := 1) (inF_cell hk) ?_
  refine lv_istore_n (lv' := [(2, .int 1), (0, .ref (ad 30 0)), (1, .int (nI k))]) hx hb dX4_fire_4 rfl hl (by decide) rfl (fun ls hl => ?_)
  refine lv_aload_n hx hb dX4_fire_5 rfl (lv_at hl 1 rfl) ?_
  refine lv_iload_n hx hb dX4_fire_6 rfl (lv_at hl 0 rfl) ?_
  refine lv_if_ne (tgt := 14) hx hb dX4_fire_7 (by decide) (fun _ => ?_) (fun c9 => absurd c9 (by decide))
  refine lv_aload_n hx hb dX4_fire_14 rfl (lv_at hl 1 rfl) ?_
  refine lv_iload_n hx hb dX4_fire_15 rfl (lv_at hl 2 rfl) ?_
  refine m_cpi (m_rV (As := [.int (nI k)]) (rest := [.ref (ad 30 0)]) hcf (k_X4_isLake l g A ad x k (by omega)) (cwV 1 hts (lw_V q1074 q1076 qs20 q41 q1077) rfl rfl rfl (by decide +kernel) ⟨Nat.le_of_ble_eq_true rfl, Nat.le_of_ble_eq_true rfl⟩) hE hA hM hS 30 0 (mwM_o g ad _) (ci := 1) rfl rfl hl.1 rfl (Nat.le_of_ble_eq_true rfl) dX4_fire_16 ⟨Nat.le_of_ble_eq_true rfl, Nat.le_of_ble_eq_true rfl⟩) hS (fun H locs hM hS => ?_)
  have J_12 : ∀ (v_10 : Int32), ((if (lakF x k) = 0 then (if (x.1 4 k) ≤ 0 then 0 else 2) else 2) = v_10) → W p l e rm_X4_fire_nk s m args below meth c H locs 0 0 Q (F0 m 36 ls [.int v_10, .ref (ad 30 0)]) := by
    intro v_10 ev_11
    refine m_topI (y := w) ((by subst ev_11; exact hw)) ?_
    refine m_cpi (m_rV (As := [.int w]) (rest := []) hcf (k_X4_refused l g A ad x w) (cwV 1 hts (lw_V q1047 q1049 qs16 q41 q1050) rfl rfl rfl (by decide +kernel) ⟨Nat.le_of_ble_eq_true rfl, Nat.le_of_ble_eq_true rfl⟩) hE hA hM hS 30 0 (mwM_o g ad _) (ci := 1) rfl rfl hl.1 rfl (Nat.le_of_ble_eq_true rfl) dX4_fire_36 ⟨Nat.le_of_ble_eq_true rfl, Nat.le_of_ble_eq_true rfl⟩) hS (fun H locs hM hS => ?_)
    obtain ⟨x_15, ex_16⟩ : ∃ z : St, sI x 0 0 w = z := ⟨_, rfl⟩
    rw [ex_16] at hM
    refine lv_if_eq (tgt := 44) hx hb dX4_fire_39 (by decide) (fun c9 => absurd c9 (refF_ne hw0)) (fun _ => ?_)
    refine lv_iconst (v := 0) hx hb dX4_fire_42 (by decide) ?_
    rw [← hQ]
    exact m_iret () hx hb hr rfl hlk (by have hF : x_15 = sI x 0 0 w := (by subst ex_16 ev_11; first | rfl); rw [← hF]; exact hM) hS (by subst ex_16 ev_11; first | rfl) (by first | decide | omega) (by first | decide | omega) dX4_fire_43
  refine lv_if_ne (tgt := 31) hx hb dX4_fire_19 (by decide) (fun c_8 => ?_) (fun c_8 => ?_)
  · refine lv_iconst (v := 2) hx hb dX4_fire_31 (by decide) ?_
    refine lv_goto (tgt := 36) hx hb dX4_fire_32 (by decide) ?_
    exact J_12 _ (by first | rfl | (rw [if_neg c_8]) | (simp only [c_8, if_true, if_false, ite_true, ite_false, not_false_eq_true, reduceIte]))
  · refine lv_aload_n hx hb dX4_fire_22 rfl (lv_at hl 1 rfl) ?_
    refine mm_get hcf hE hM 4 (by decide) q940 rfl rfl dX4_fire_23 ?_
    refine lv_iload_n hx hb dX4_fire_26 rfl (lv_at hl 2 rfl) ?_
    refine mm_ald hcf hE hM 4 rfl (by decide) k (by show _ < 25; omega) rfl dX4_fire_27 ?_
    refine lv_if_le (tgt := 35) hx hb dX4_fire_28 (by decide) (fun c_9 => ?_) (fun c_9 => ?_)
    · refine lv_iconst (v := 0) hx hb dX4_fire_35 (by decide) ?_
      exact J_12 _ (by first | rfl | (rw [if_pos c_8, if_pos c_9]) | (simp only [c_8, c_9, if_true, if_false, ite_true, ite_false, not_false_eq_true, reduceIte]))
    · refine lv_iconst (v := 2) hx hb dX4_fire_31 (by decide) ?_
      refine lv_goto (tgt := 36) hx hb dX4_fire_32 (by decide) ?_
      exact J_12 _ (by first | rfl | (rw [if_pos c_8, if_neg c_9]) | (simp only [c_8, c_9, if_true, if_false, ite_true, ite_false, not_false_eq_true, reduceIte]))

abbrev rm_X4_fire_ok : Room := { frames := 2, cells := 0, slots := 0, locals := 42 }
set_option maxHeartbeats 400000 in
theorem k_X4_fire_ok (l : Launch) (g : GG) (A : Nat → Prop) (ad : Nat → Nat → Nat) (x : St) (k : Nat) (hk : k < 25) (hw : why_fire_k x k = 0) : Met l yX4_fire (ws_ yX4_fire cX4_fire 4 (some .int)) rm_X4_fire_ok (va_Pc [.ref (ad 30 0), .int (nI k)] (mPre g A (mwM g ad x))) (pQi g A (x.1 11 (5 * k) / 2) (mwM g ad (firF (sI x 0 0 0) k))) 0 0 A := by
  refine m_start RX4 rfl (by decide) (Nat.le_of_ble_eq_true rfl) ?_
  intro p e s m args below meth c hcf hr hlk hnm hE hA H locs hM hS ls hl
  have hx := hcf.1
  have hb := hcf.2.1
  have hml := hcf.2.2.1
  have hown := hcf.2.2.2.1
  have hts := hcf.2.2.2.2
  have hl : lv_has ls 4 [(0, .ref (ad 30 0)), (1, .int (nI k))] := hl
  generalize hQ : MQ below (pQi g A (x.1 11 (5 * k) / 2) (mwM g ad (firF (sI x 0 0 0) k))) args s 0 0 A = Q
  refine lv_iload_n hx hb dX4_fire_0 rfl (lv_at hl 1 rfl) ?_
  refine m_cpi (m_rS (As := [.int (nI k)]) (rest := []) hcf (k_X4_isCell l g A (mwM g ad x) (nI k)) (va_cwS 1 hts (lw_S q1041 q1042 q41 q1043) rfl rfl rfl (by decide +kernel) ⟨Nat.le_of_ble_eq_true rfl, Nat.le_of_ble_eq_true rfl⟩) hE hA hM hS rfl hl.1 rfl (Nat.le_of_ble_eq_true rfl) dX4_fire_1 ⟨Nat.le_of_ble_eq_true rfl, Nat.le_of_ble_eq_true rfl⟩) hS (fun H locs hM hS => ?_)
  refine m_topI (y := 1) (inF_cell hk) ?_
  refine lv_istore_n (lv' := [(2, .int 1), (0, .ref (ad 30 0)), (1, .int (nI k))]) hx hb dX4_fire_4 rfl hl (by decide) rfl (fun ls hl => ?_)
  refine lv_aload_n hx hb dX4_fire_5 rfl (lv_at hl 1 rfl) ?_
  refine lv_iload_n hx hb dX4_fire_6 rfl (lv_at hl 0 rfl) ?_
  refine lv_if_ne (tgt := 14) hx hb dX4_fire_7 (by decide) (fun _ => ?_) (fun c9 => absurd c9 (by decide))
  refine lv_aload_n hx hb dX4_fire_14 rfl (lv_at hl 1 rfl) ?_
  refine lv_iload_n hx hb dX4_fire_15 rfl (lv_at hl 2 rfl) ?_
  refine m_cpi (m_rV (As := [.int (nI k)]) (rest := [.ref (ad 30 0)]) hcf (k_X4_isLake l g A ad x k (by omega)) (cwV 1 hts (lw_V q1074 q1076 qs20 q41 q1077) rfl rfl rfl (by decide +kernel) ⟨Nat.le_of_ble_eq_true rfl, Nat.le_of_ble_eq_true rfl⟩) hE hA hM hS 30 0 (mwM_o g ad _) (ci := 1) rfl rfl hl.1 rfl (Nat.le_of_ble_eq_true rfl) dX4_fire_16 ⟨Nat.le_of_ble_eq_true rfl, Nat.le_of_ble_eq_true rfl⟩) hS (fun H locs hM hS => ?_)
  have J_12 : ∀ (v_10 : Int32), ((if (lakF x k) = 0 then (if (x.1 4 k) ≤ 0 then 0 else 2) else 2) = v_10) → W p l e rm_X4_fire_ok s m args below meth c H locs 0 0 Q (F0 m 36 ls [.int v_10, .ref (ad 30 0)]) := by
    intro v_10 ev_11
    refine m_topI (y := 0) ((by subst ev_11; exact hw)) ?_
    refine m_cpi (m_rV (As := [.int 0]) (rest := []) hcf (k_X4_refused l g A ad x 0) (cwV 1 hts (lw_V q1047 q1049 qs16 q41 q1050) rfl rfl rfl (by decide +kernel) ⟨Nat.le_of_ble_eq_true rfl, Nat.le_of_ble_eq_true rfl⟩) hE hA hM hS 30 0 (mwM_o g ad _) (ci := 1) rfl rfl hl.1 rfl (Nat.le_of_ble_eq_true rfl) dX4_fire_36 ⟨Nat.le_of_ble_eq_true rfl, Nat.le_of_ble_eq_true rfl⟩) hS (fun H locs hM hS => ?_)
    obtain ⟨x_15, ex_16⟩ : ∃ z : St, sI x 0 0 0 = z := ⟨_, rfl⟩
    rw [ex_16] at hM
    refine m_topI (y := 0) (by decide) ?_
    refine lv_if_eq (tgt := 44) hx hb dX4_fire_39 (by decide) (fun _ => ?_) (fun c9 => absurd (by decide) c9)
    refine lv_aload_n hx hb dX4_fire_44 rfl (lv_at hl 1 rfl) ?_
    refine mm_get hcf hE hM 11 (by decide) q947 rfl rfl dX4_fire_45 ?_
    refine lv_iconst (v := 5) hx hb dX4_fire_48 (by decide) ?_
    refine lv_iload_n hx hb dX4_fire_49 rfl (lv_at hl 2 rfl) ?_
    refine lv_imul hx hb dX4_fire_50 ?_
    refine m_topI (y := nI (5 * k)) (pk_mul 5 k) ?_
    refine mm_ald hcf hE hM 11 rfl (by decide) (5 * k) (by show _ < 125; omega) rfl dX4_fire_51 ?_
    refine lv_iconst (v := 2) hx hb dX4_fire_52 (by decide) ?_
    refine lv_idiv hx hb dX4_fire_53 (by decide) ?_
    refine lv_istore_n (lv' := [(3, .int ((x_15.1 11 (5 * k)) / 2)), (2, .int 1), (0, .ref (ad 30 0)), (1, .int (nI k))]) hx hb dX4_fire_54 rfl hl (by decide) rfl (fun ls hl => ?_)
    refine lv_aload_n hx hb dX4_fire_55 rfl (lv_at hl 2 rfl) ?_
    refine mm_get hcf hE hM 5 (by decide) q941 rfl rfl dX4_fire_56 ?_
    refine lv_iload_n hx hb dX4_fire_59 rfl (lv_at hl 3 rfl) ?_
    refine lv_iconst (v := 0) hx hb dX4_fire_60 (by decide) ?_
    refine mm_ast hcf hE hM hS 5 rfl (by decide) k (by show _ < 25; omega) rfl dX4_fire_61 (fun x_19 H locs ex_20 hM hS => ?_)
    refine lv_aload_n hx hb dX4_fire_62 rfl (lv_at hl 2 rfl) ?_
    refine mm_get hcf hE hM 11 (by decide) q947 rfl rfl dX4_fire_63 ?_
    refine lv_iconst (v := 5) hx hb dX4_fire_66 (by decide) ?_
    refine lv_iload_n hx hb dX4_fire_67 rfl (lv_at hl 3 rfl) ?_
    refine lv_imul hx hb dX4_fire_68 ?_
    refine m_topI (y := nI (5 * k)) (pk_mul 5 k) ?_
    refine lv_dup2_11 hx hb dX4_fire_69 rfl rfl ?_
    refine mm_ald hcf hE hM 11 rfl (by decide) (5 * k) (by show _ < 125; omega) rfl dX4_fire_70 ?_
    refine lv_iload_n hx hb dX4_fire_71 rfl (lv_at hl 0 rfl) ?_
    refine lv_isub hx hb dX4_fire_72 ?_
    refine mm_ast hcf hE hM hS 11 rfl (by decide) (5 * k) (by show _ < 125; omega) rfl dX4_fire_73 (fun x_21 H locs ex_22 hM hS => ?_)
    refine lv_aload_n hx hb dX4_fire_74 rfl (lv_at hl 2 rfl) ?_
    refine lv_dup hx hb dX4_fire_75 rfl ?_
    refine mm_get hcf hE hM 30 (by decide) q966 rfl rfl dX4_fire_76 ?_
    refine lv_iload_n hx hb dX4_fire_79 rfl (lv_at hl 0 rfl) ?_
    refine lv_i2l hx hb dX4_fire_80 rfl ?_
    refine lv_ladd hx hb dX4_fire_81 ?_
    refine mm_putl hcf hE hM hS 30 (by decide) q966 rfl rfl rfl ((x_21.2 30) + (((x_15.1 11 (5 * k)) / 2).toInt64)) rfl dX4_fire_82 (fun x_23 H locs ex_24 hM hS => ?_)
    refine lv_iload_n hx hb dX4_fire_85 rfl (lv_at hl 0 rfl) ?_
    rw [← hQ]
    exact m_iret () hx hb hr rfl hlk (by have hF : x_23 = firF (sI x 0 0 0) k := (by subst ex_24 ex_22 ex_20 ex_16 ev_11; first | rfl); rw [← hF]; exact hM) hS (by subst ex_24 ex_22 ex_20 ex_16 ev_11; first | rfl) (by first | decide | omega) (by first | decide | omega) dX4_fire_86
  refine lv_if_ne (tgt := 31) hx hb dX4_fire_19 (by decide) (fun c_8 => ?_) (fun c_8 => ?_)
  · refine lv_iconst (v := 2) hx hb dX4_fire_31 (by decide) ?_
    refine lv_goto (tgt := 36) hx hb dX4_fire_32 (by decide) ?_
    exact J_12 _ (by first | rfl | (rw [if_neg c_8]) | (simp only [c_8, if_true, if_false, ite_true, ite_false, not_false_eq_true, reduceIte]))
  · refine lv_aload_n hx hb dX4_fire_22 rfl (lv_at hl 1 rfl) ?_
    refine mm_get hcf hE hM 4 (by decide) q940 rfl rfl dX4_fire_23 ?_
    refine lv_iload_n hx hb dX4_fire_26 rfl (lv_at hl 2 rfl) ?_
    refine mm_ald hcf hE hM 4 rfl (by decide) k (by show _ < 25; omega) rfl dX4_fire_27 ?_
    refine lv_if_le (tgt := 35) hx hb dX4_fire_28 (by decide) (fun c_9 => ?_) (fun c_9 => ?_)
    · refine lv_iconst (v := 0) hx hb dX4_fire_35 (by decide) ?_
      exact J_12 _ (by first | rfl | (rw [if_pos c_8, if_pos c_9]) | (simp only [c_8, c_9, if_true, if_false, ite_true, ite_false, not_false_eq_true, reduceIte]))
    · refine lv_iconst (v := 2) hx hb dX4_fire_31 (by decide) ?_
      refine lv_goto (tgt := 36) hx hb dX4_fire_32 (by decide) ?_
      exact J_12 _ (by first | rfl | (rw [if_pos c_8, if_neg c_9]) | (simp only [c_8, c_9, if_true, if_false, ite_true, ite_false, not_false_eq_true, reduceIte]))

