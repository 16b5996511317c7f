/-! the class's cells: flow; over the iterator -/
set_option maxRecDepth 100000
theorem lw_F {own : String} {idx : Nat} {C : String} {x y : MethodName} {b : ByteArray} {L : Nat} {r : Option FieldType} (h1 : Cond.methodLink own idx x ∈ lw_all) (h2 : Cond.selects C x y ∈ lw_all) (h3 : Cond.instanceMethod y ∈ lw_all) (h4 : Cond.initialized y.cls ∈ lw_all) (h5 : Cond.code y b L r ∈ lw_all) : GoodIn lw_all (va_wsF own idx C x y (ws_ y b L r)) := by
  refine lw_app ?_ (lw_meth h5)
  intro w hw
  simp only [List.mem_cons, List.not_mem_nil, or_false] at hw
  rcases hw with e | e | e | e
  · rw [e]; exact h1
  · rw [e]; exact h2
  · rw [e]; exact h3
  · rw [e]; exact h4
def nbN (k n : Nat) : Nat := (nI k + 5 * arR n + arC n).toNatClampNeg
theorem nbN_ok0 : ∀ k, k < 25 → ∀ n, n < 4 → ¬ onR k n = 0 → nbN k n < 25 ∧ nI k + 5 * arR n + arC n = nI (nbN k n) := by decide +kernel
theorem nbN_ok {k n : Nat} (hk : k < 25) (hn : n < 4) (ho : ¬ onR k n = 0) : nbN k n < 25 ∧ nI k + 5 * arR n + arC n = nI (nbN k n) := nbN_ok0 k hk n hn ho
theorem vb_nI0 : ∀ b, b < 25 → vb_c (b + 128) = nI b := by decide +kernel
theorem vb_nI {b : Nat} (h : b < 25) : vb_c (b + 128) = nI b := vb_nI0 b h
/-- over the neighbours, one after another -/
def nbF {S : Type} (k : Nat) (stp : Nat → S → S) : Nat → Nat → S → S
  | 0, _, s => s
  | f + 1, n, s => if 4 ≤ n then s else nbF k stp f (skpN k 4 (n + 1)) (stp (nbN k n) s)
theorem nbF_4 {S : Type} (k : Nat) (stp : Nat → S → S) (f : Nat) (s : S) : nbF k stp f 4 s = s := by
  cases f with
  | zero => rfl
  | succ f => exact if_pos (Nat.le_refl 4)
theorem nbF_s {S : Type} {k n : Nat} (hn : n < 4) (stp : Nat → S → S) (f : Nat) (s : S) : nbF k stp (f + 1) n s = nbF k stp f (skpN k 4 (n + 1)) (stp (nbN k n) s) := if_neg (by omega)
theorem ar_fs : ∀ j, j < 2 → defaultValue (tyX5 j) = vp_V [.int 0, .int 0] j := by
  intro j hj
  have h : j = 0 ∨ j = 1 := by omega
  rcases h with rfl | rfl <;> rfl
theorem cwAr {g : GG} {ad : Nat → Nat → Nat} {Mx : MM} {x : St} {D : va_G} {A : Nat → Prop} {H : Heap} {q k n : Nat} (h : mW D A (cwM g ad (mAr Mx q k n) x) H) : mW D A (mAr (cwM g ad Mx x) q k n) H := h.congr (fun j i => (cw_up (by decide) _ j i).symm)
theorem arCw {g : GG} {ad : Nat → Nat → Nat} {Mx : MM} {x : St} {D : va_G} {A : Nat → Prop} {H : Heap} {q k n : Nat} (h : mW D A (mAr (cwM g ad Mx x) q k n) H) : mW D A (cwM g ad (mAr Mx q k n) x) H := h.congr (fun j i => cw_up (by decide) _ j i)
theorem cwUp {g : GG} {ad : Nat → Nat → Nat} {Mx : MM} {x : St} {D : va_G} {A : Nat → Prop} {H : Heap} {k n : Nat} {q : Nat × va_E} (hk : 11 < k) (h : mW D A (mUp (cwM g ad Mx x) k n q) H) : mW D A (cwM g ad (mUp Mx k n q) x) H := h.congr (fun j i => cw_up hk _ j i)
theorem upCw {g : GG} {ad : Nat → Nat → Nat} {Mx : MM} {x : St} {D : va_G} {A : Nat → Prop} {H : Heap} {k n : Nat} {q : Nat × va_E} (hk : 11 < k) (h : mW D A (cwM g ad (mUp Mx k n q) x) H) : mW D A (mUp (cwM g ad Mx x) k n q) H := h.congr (fun j i => (cw_up hk _ j i).symm)
section CQ
variable {p : Program} {l : Launch} {e : Env} {R : Room} {s : State} {m : MethodId} {args : Array Value} {below : List Frame} {meth : Method} {c : Code} {H : Heap} {locs : List Loc} {cells slots : Nat} {Q : State → Prop}
variable {cc : ByteArray} {pc : Nat} {ls : Array Slot} {rest : List Value} {g : GG} {A : Nat → Prop} {ad : Nat → Nat → Nat} {Mx : MM} {x : St} {i j : Nat}
theorem cw_2i (hM : mW g.1 A (cwM g ad Mx x) H) (hi : i < 25) (hj : j < 25) : (some (ad 2 i) = some (ad 2 j)) ↔ i = j := by
  constructor
  · intro h
    exact (hM.2 2 i 2 j _ _ (cw_2 hi) (cw_2 hj) (Option.some.inj h)).2
  · intro h
    rw [h]
theorem cc_acmp_eq (hM : mW g.1 A (cwM g ad Mx x) H) (hi : i < 25) (hj : j < 25) (hx : p.tables.exec = Jvm.exec) (hb : c.code = cc) {off : Int} {tgt : Nat} (hdg : decode cc pc = .ok (.if_acmp .eq off, 3)) (ht : (pc : Int) + off = (tgt : Int)) (kt : i = j → W p l e R s m args below meth c H locs cells slots Q (F0 m tgt ls rest)) (kf : ¬ i = j → W p l e R s m args below meth c H locs cells slots Q (F0 m (pc + 3) ls rest)) : W p l e R s m args below meth c H locs cells slots Q (F0 m pc ls (.ref (ad 2 j) :: .ref (ad 2 i) :: rest)) :=
  lv_acmp_eq (rx := some (ad 2 i)) (ry := some (ad 2 j)) hx hb hdg ht (fun h => kt ((cw_2i hM hi hj).1 h)) (fun h => kf (fun z => h ((cw_2i hM hi hj).2 z)))
theorem cc_acmp_ne (hM : mW g.1 A (cwM g ad Mx x) H) (hi : i < 25) (hj : j < 25) (hx : p.tables.exec = Jvm.exec) (hb : c.code = cc) {off : Int} {tgt : Nat} (hdg : decode cc pc = .ok (.if_acmp .ne off, 3)) (ht : (pc : Int) + off = (tgt : Int)) (kt : ¬ i = j → W p l e R s m args below meth c H locs cells slots Q (F0 m tgt ls rest)) (kf : i = j → W p l e R s m args below meth c H locs cells slots Q (F0 m (pc + 3) ls rest)) : W p l e R s m args below meth c H locs cells slots Q (F0 m pc ls (.ref (ad 2 j) :: .ref (ad 2 i) :: rest)) :=
  lv_acmp_ne (rx := some (ad 2 i)) (ry := some (ad 2 j)) hx hb hdg ht (fun h => kt (fun z => h ((cw_2i hM hi hj).2 z))) (fun h => kf (by by_cases hz : i = j; exact hz; exact absurd h (fun q => hz ((cw_2i hM hi hj).1 q))))
end CQ
/-- where a cell's water goes -/
def cfwS (x : St) (k b w : Nat) : Nat := if w = k then b else (if x.1 2 w + x.1 3 w ≤ x.1 2 b + x.1 3 b then w else b)
def cfwL (x : St) (k : Nat) : Nat := nbF k (cfwS x k) 4 (skpN k 4 0) k
def cfwO (x : St) (k : Nat) : Int32 := x.1 2 k + x.1 3 k - (x.1 2 (cfwL x k) + x.1 3 (cfwL x k))
def cfwA (x : St) (k : Nat) : Int32 := if 2 ≤ cfwO x k then jmin (x.1 3 k) (cfwO x k / 2) else 0
def cfwF (x : St) (k : Nat) : St := sI (sI x 3 k (x.1 3 k - cfwA x k)) 3 (cfwL x k) ((sI x 3 k (x.1 3 k - cfwA x k)).1 3 (cfwL x k) + cfwA x k)
abbrev rm_X2_flow : Room := { frames := 4, cells := 1, slots := 2, locals := 83 }
set_option maxHeartbeats 400000 in
theorem k_X2_flow (l : Launch) (g : GG) (A : Nat → Prop) (ad : Nat → Nat → Nat) (Mx : MM) (x : St) (k : Nat) (hk : k < 25) (hMx : Mx 20 0 = none) : Met l yX2_flow (ws_ yX2_flow cX2_flow 4 none) rm_X2_flow (va_Pc [.ref (ad 2 k)] (mPre g A (cwM g ad Mx x))) (pQv g A (cwM g ad Mx (cfwF x k))) 1 2 A := by
  refine m_start RX2 rfl (by decide) (Nat.le_of_ble_eq_true rfl) ?_
  intro p e s m args below meth c hcf hr hlk hnm hE hA H locs hM hS ls hl
  have hx := hcf.1
  have hb := hcf.2.1
  have hml := hcf.2.2.1
  have hown := hcf.2.2.2.1
  have hts := hcf.2.2.2.2
  have hl : lv_has ls 4 [(0, .ref (ad 2 k))] := hl
  generalize hQ : MQ below (pQv g A (cwM g ad Mx (cfwF x k))) args s 1 2 A = Q
  refine lv_aload_n hx hb dX2_flow_0 rfl (lv_at hl 0 rfl) ?_
  refine lv_astore_n (lv' := [(1, .ref (ad 2 k)), (0, .ref (ad 2 k))]) hx hb dX2_flow_1 rfl hl (by decide) rfl (fun ls hl => ?_)
  refine m_new hx hb hts in_X5 tyX5 tyX5_ok hown (hts _ q540) (hts _ q228) (hts _ q51) hE hM hS hA 20 0 (by rw [cw_ext (by decide)]; exact hMx) (ci := 4) rfl (fs := [.int 0, .int 0]) ar_fs (Nat.le_of_ble_eq_true rfl) (Nat.le_of_ble_eq_true rfl) dX2_flow_2 (fun q_2 H h_q_2 hM hS => ?_)
  have hM := cwUp (by decide) hM
  refine lv_dup hx hb dX2_flow_5 rfl ?_
  refine lv_aload_n hx hb dX2_flow_6 rfl (lv_at hl 1 rfl) ?_
  refine m_get hx hb hts in_X2 hown hE hM 2 k (cw_2 (by omega)) (ci := 2) rfl 0 (by decide) (hts _ q136) (fun _ h9 => h9) rfl dX2_flow_7 ?_
  refine m_cpv (m_rI (As := [.int (nI k)]) (rest := [.ref q_2]) hcf (k_X5_init l g A (cwM g ad Mx x) q_2 k (by omega)) (cwI 1 hts (lw_meth q231) rfl rfl rfl (hts _ q51) (hts _ q541) (hts _ q230) rfl (by decide +kernel) ⟨Nat.le_of_ble_eq_true rfl, Nat.le_of_ble_eq_true rfl⟩) hE hA (upCw (by decide) hM) hS rfl hl.1 rfl (Nat.le_of_ble_eq_true rfl) dX2_flow_10 ⟨Nat.le_of_ble_eq_true rfl, Nat.le_of_ble_eq_true rfl⟩) hS (fun H locs hM hS => ?_)
  have hM := arCw hM
  refine lv_astore_n (lv' := [(2, .ref q_2), (1, .ref (ad 2 k)), (0, .ref (ad 2 k))]) hx hb dX2_flow_13 rfl hl (by decide) rfl (fun ls hl => ?_)
  obtain ⟨R_6, hR_6⟩ : ∃ y : Nat, nbF k (cfwS x k) 4 (skpN k 4 0) k = y := ⟨_, rfl⟩
  have X_6 : R_6 < 25 → ∀ (H : Heap) (locs : List Loc) (ls : Array Slot), mW g.1 A (cwM g ad (mAr Mx q_2 k 4) x) H → va_S A s.heap H locs → lv_has ls 4 [(0, .ref (ad 2 k)), (1, .ref (ad 2 R_6)), (2, .ref q_2)] → W p l e rm_X2_flow s m args below meth c H locs 1 2 Q (F0 m 14 ls []) := by
    intro hi0_6 H locs ls hM hS hl
    refine lv_aload_n hx hb dX2_flow_14 rfl (lv_at hl 2 rfl) ?_
    refine m_cFi (m_rF (As := []) (rest := []) hcf (k_X5_hasNext l g A (cwM g ad Mx x) q_2 k 4) (va_cwF 0 hts (lw_F q543 q257 q259 q51 q261) rfl rfl rfl hE.X.1 (by decide +kernel) ⟨Nat.le_of_ble_eq_true rfl, Nat.le_of_ble_eq_true rfl⟩) hE hA (cwAr hM) hS 20 0 (mUp_self _ _ _ _) (ci := 4) rfl rfl hl.1 rfl (Nat.le_of_ble_eq_true rfl) dX2_flow_15 ⟨Nat.le_of_ble_eq_true rfl, Nat.le_of_ble_eq_true rfl⟩) hS (fun H locs hM hS => ?_)
    have hM := arCw hM
    refine m_topI (y := 0) (if_pos (by decide)) ?_
    refine lv_if_eq (tgt := 69) hx hb dX2_flow_20 (by decide) (fun _ => ?_) (fun c9 => absurd (by decide) c9)
    have hM := cw_down (k := 20) (n := 0) (by decide) hMx (cwAr hM)
    refine lv_aload_n hx hb dX2_flow_69 rfl (lv_at hl 0 rfl) ?_
    refine m_cpi (m_rV (As := []) (rest := []) hcf (k_X2_level l g A ad Mx x k (by omega)) (cwV 0 hts (lw_V q548 q549 q550 q39 q551) rfl rfl rfl (by decide +kernel) ⟨Nat.le_of_ble_eq_true rfl, Nat.le_of_ble_eq_true rfl⟩) hE hA hM hS 2 k (cw_2 (by omega)) (ci := 2) rfl rfl hl.1 rfl (Nat.le_of_ble_eq_true rfl) dX2_flow_70 ⟨Nat.le_of_ble_eq_true rfl, Nat.le_of_ble_eq_true rfl⟩) hS (fun H locs hM hS => ?_)
    refine lv_aload_n hx hb dX2_flow_73 rfl (lv_at hl 1 rfl) ?_
    refine m_cpi (m_rV (As := []) (rest := [.int (x.1 2 k + x.1 3 k)]) hcf (k_X2_level l g A ad Mx x R_6 (by omega)) (cwV 0 hts (lw_V q548 q549 q550 q39 q551) rfl rfl rfl (by decide +kernel) ⟨Nat.le_of_ble_eq_true rfl, Nat.le_of_ble_eq_true rfl⟩) hE hA hM hS 2 R_6 (cw_2 (by omega)) (ci := 2) rfl rfl hl.1 rfl (Nat.le_of_ble_eq_true rfl) dX2_flow_74 ⟨Nat.le_of_ble_eq_true rfl, Nat.le_of_ble_eq_true rfl⟩) hS (fun H locs hM hS => ?_)
    refine lv_isub hx hb dX2_flow_77 ?_
    refine lv_istore_n (lv' := [(2, .int ((x.1 2 k + x.1 3 k) - (x.1 2 R_6 + x.1 3 R_6))), (0, .ref (ad 2 k)), (1, .ref (ad 2 R_6))]) hx hb dX2_flow_78 rfl hl (by decide) rfl (fun ls hl => ?_)
    refine lv_iload_n hx hb dX2_flow_79 rfl (lv_at hl 0 rfl) ?_
    refine lv_iconst (v := 2) hx hb dX2_flow_80 (by decide) ?_
    have J_19 : ∀ (H : Heap) (locs : List Loc) (v_17 : Int32), mW g.1 A (cwM g ad Mx x) H → va_S A s.heap H locs → ((if 2 ≤ ((x.1 2 k + x.1 3 k) - (x.1 2 R_6 + x.1 3 R_6)) then (jmin (x.1 3 k) (((x.1 2 k + x.1 3 k) - (x.1 2 R_6 + x.1 3 R_6)) / 2)) else 0) = v_17) → W p l e rm_X2_flow s m args below meth c H locs 1 2 Q (F0 m 98 ls [.int v_17]) := by
      intro H locs v_17 hM hS ev_18
      refine lv_istore_n (lv' := [(3, .int v_17), (2, .int ((x.1 2 k + x.1 3 k) - (x.1 2 R_6 + x.1 3 R_6))), (0, .ref (ad 2 k)), (1, .ref (ad 2 R_6))]) hx hb dX2_flow_98 rfl hl (by decide) rfl (fun ls hl => ?_)
      refine lv_aload_n hx hb dX2_flow_99 rfl (lv_at hl 2 rfl) ?_
      refine lv_dup hx hb dX2_flow_100 rfl ?_
      refine m_get hx hb hts in_X2 hown hE hM 2 k (cw_2 (by omega)) (ci := 2) rfl 3 (by decide) (hts _ q143) (fun _ h9 => h9) rfl dX2_flow_101 ?_
      refine lv_iload_n hx hb dX2_flow_104 rfl (lv_at hl 0 rfl) ?_
      refine lv_isub hx hb dX2_flow_105 ?_
      refine cc_put hcf hE hM hS k (by omega) 3 (by decide) (by decide) q143 rfl rfl rfl ((x.1 3 k) - v_17) rfl dX2_flow_106 (fun x_21 H locs ex_22 hM hS => ?_)
      refine lv_aload_n hx hb dX2_flow_109 rfl (lv_at hl 3 rfl) ?_
      refine lv_dup hx hb dX2_flow_110 rfl ?_
      refine m_get hx hb hts in_X2 hown hE hM 2 R_6 (cw_2 (by omega)) (ci := 2) rfl 3 (by decide) (hts _ q143) (fun _ h9 => h9) rfl dX2_flow_111 ?_
      refine lv_iload_n hx hb dX2_flow_114 rfl (lv_at hl 0 rfl) ?_
      refine lv_iadd hx hb dX2_flow_115 ?_
      refine cc_put hcf hE hM hS R_6 (by omega) 3 (by decide) (by decide) q143 rfl rfl rfl ((x_21.1 3 R_6) + v_17) rfl dX2_flow_116 (fun x_23 H locs ex_24 hM hS => ?_)
      rw [← hQ]
      exact m_vret () hx hb hr hlk (by have hF : x_23 = cfwF x k := (by subst ex_24 ex_22 ev_18 hR_6; first | rfl | (unfold cfwF; rfl)); rw [← hF]; exact hM) hS trivial (by first | decide | omega) (by first | decide | omega) dX2_flow_119
    refine lv_icmp_ge (tgt := 88) hx hb dX2_flow_81 (by decide) (fun c_13 => ?_) (fun c_13 => ?_)
    · refine lv_aload_n hx hb dX2_flow_88 rfl (lv_at hl 1 rfl) ?_
      refine m_get hx hb hts in_X2 hown hE hM 2 k (cw_2 (by omega)) (ci := 2) rfl 3 (by decide) (hts _ q143) (fun _ h9 => h9) rfl dX2_flow_89 ?_
      refine lv_iload_n hx hb dX2_flow_92 rfl (lv_at hl 0 rfl) ?_
      refine lv_iconst (v := 2) hx hb dX2_flow_93 (by decide) ?_
      refine lv_idiv hx hb dX2_flow_94 (by decide) ?_
      refine m_cpi (m_rS (As := [.int (x.1 3 k), .int (((x.1 2 k + x.1 3 k) - (x.1 2 R_6 + x.1 3 R_6)) / 2)]) (rest := []) hcf (k_J11_min l g A (cwM g ad Mx x) (x.1 3 k) (((x.1 2 k + x.1 3 k) - (x.1 2 R_6 + x.1 3 R_6)) / 2)) (va_cwS 2 hts (lw_S q552 q497 q50 q498) rfl rfl rfl (by decide +kernel) ⟨Nat.le_of_ble_eq_true rfl, Nat.le_of_ble_eq_true rfl⟩) hE hA hM hS rfl hl.1 rfl (Nat.le_of_ble_eq_true rfl) dX2_flow_95 ⟨Nat.le_of_ble_eq_true rfl, Nat.le_of_ble_eq_true rfl⟩) hS (fun H locs hM hS => ?_)
      exact J_19 H locs _ hM hS (by first | (rw [if_pos c_13]) | rfl | (simp only [c_13, if_true, if_false, ite_true, ite_false, not_false_eq_true, reduceIte]))
    · refine lv_iconst (v := 0) hx hb dX2_flow_84 (by decide) ?_
      refine lv_goto (tgt := 98) hx hb dX2_flow_85 (by decide) ?_
      exact J_19 H locs _ hM hS (by first | (rw [if_neg c_13]) | rfl | (simp only [c_13, if_true, if_false, ite_true, ite_false, not_false_eq_true, reduceIte]))
  have L_6 : ∀ (f n_6 : Nat) (w_6 : Nat), n_6 ≤ 4 → 4 ≤ n_6 + f → (n_6 < 4 → ¬ onR k n_6 = 0) → nbF k (cfwS x k) f n_6 w_6 = R_6 → w_6 < 25 → ∀ (H : Heap) (locs : List Loc) (ls : Array Slot), mW g.1 A (cwM g ad (mAr Mx q_2 k n_6) x) H → va_S A s.heap H locs → lv_has ls 4 [(0, .ref (ad 2 k)), (1, .ref (ad 2 w_6)), (2, .ref q_2)] → W p l e rm_X2_flow s m args below meth c H locs 1 2 Q (F0 m 14 ls []) := by
    intro f
    induction f with
    | zero =>
      intro n_6 w_6 h4 hf hon he hi0_6 H locs ls hM hS hl
      have h5 : n_6 = 4 := by omega
      subst h5
      have he : w_6 = R_6 := he
      subst w_6
      exact X_6 hi0_6 H locs ls hM hS hl
    | succ f ih =>
      intro n_6 w_6 h4 hf hon he hi0_6 H locs ls hM hS hl
      by_cases h5 : n_6 = 4
      · subst h5
        have he : w_6 = R_6 := (nbF_4 _ _ _ _).symm.trans he
        subst w_6
        exact X_6 hi0_6 H locs ls hM hS hl
      have hn4 : n_6 < 4 := by omega
      have hon := hon hn4
      have he := (nbF_s hn4 _ _ _).symm.trans he
      obtain ⟨hb25, hbn⟩ := nbN_ok hk hn4 hon
      refine lv_aload_n hx hb dX2_flow_14 rfl (lv_at hl 2 rfl) ?_
      refine m_cFi (m_rF (As := []) (rest := []) hcf (k_X5_hasNext l g A (cwM g ad Mx x) q_2 k n_6) (va_cwF 0 hts (lw_F q543 q257 q259 q51 q261) rfl rfl rfl hE.X.1 (by decide +kernel) ⟨Nat.le_of_ble_eq_true rfl, Nat.le_of_ble_eq_true rfl⟩) hE hA (cwAr hM) hS 20 0 (mUp_self _ _ _ _) (ci := 4) rfl rfl hl.1 rfl (Nat.le_of_ble_eq_true rfl) dX2_flow_15 ⟨Nat.le_of_ble_eq_true rfl, Nat.le_of_ble_eq_true rfl⟩) hS (fun H locs hM hS => ?_)
      have hM := arCw hM
      refine m_topI (y := 1) (if_neg (nI_ge (b := 4) (by omega) (by omega))) ?_
      refine lv_if_eq (tgt := 69) hx hb dX2_flow_20 (by decide) (fun c9 => absurd c9 (by decide)) (fun _ => ?_)
      refine lv_aload_n hx hb dX2_flow_23 rfl (lv_at hl 0 rfl) ?_
      refine m_get hx hb hts in_X2 hown hE hM 2 k (cw_2 (by omega)) (ci := 2) rfl 8 (by decide) (hts _ q153) (fun _ h9 => h9) rfl dX2_flow_24 ?_
      refine m_getN hx hb hts in_X1 hown hE hM 0 0 cw_0 (ci := 0) rfl 0 (by decide) (va_Nw.use rfl (hE.nw 1 rfl)) (fun _ h9 => h9) rfl dX2_flow_27 ?_
      refine lv_aload_n hx hb dX2_flow_30 rfl (lv_at hl 2 rfl) ?_
      refine m_cFr (m_rF (As := []) (rest := [.ref (ad 1 0)]) hcf (k_X5_next l g A (cwM g ad Mx x) q_2 k n_6 (by omega) hn4 (nbN k n_6) hb25 hbn) (va_cwF 0 hts (lw_F q545 q266 q268 q51 q270) rfl rfl rfl hE.X.2.1 (by decide +kernel) ⟨Nat.le_of_ble_eq_true rfl, Nat.le_of_ble_eq_true rfl⟩) hE hA (cwAr hM) hS 20 0 (mUp_self _ _ _ _) (ci := 4) rfl rfl hl.1 rfl (Nat.le_of_ble_eq_true rfl) dX2_flow_31 ⟨Nat.le_of_ble_eq_true rfl, Nat.le_of_ble_eq_true rfl⟩) hS (fun H locs hM hS => ?_)
      have hM := arCw hM
      refine va_castS hx hb hown (hts _ q546) (hE.1.1 9 _ rfl).2 (m_box hE hS (by omega)) dX2_flow_36 ?_
      refine m_cpi (m_rVa (As := []) (rest := [.ref (ad 1 0)]) hcf (k_J14_intValue l g A (cwM g ad (mAr Mx q_2 k (skpN k 4 (n_6 + 1))) x) (nbN k n_6 + 128) (by omega)) (cwV 0 hts (lw_V q547 q364 q365 q54 q366) rfl rfl rfl (by decide +kernel) ⟨Nat.le_of_ble_eq_true rfl, Nat.le_of_ble_eq_true rfl⟩) hE hA hM hS (m_box hE hS (by omega)) rfl hl.1 rfl (Nat.le_of_ble_eq_true rfl) dX2_flow_39 ⟨Nat.le_of_ble_eq_true rfl, Nat.le_of_ble_eq_true rfl⟩) hS (fun H locs hM hS => ?_)
      refine m_topI (y := nI (nbN k n_6)) (vb_nI hb25) ?_
      refine m_aald hx hb hE hM 1 0 3 cw_1 rfl (nbN k n_6) (by omega) (by decide) rfl rfl dX2_flow_42 ?_
      refine lv_astore_n (lv' := [(3, .ref (ad 2 (nbN k n_6))), (0, .ref (ad 2 k)), (1, .ref (ad 2 w_6)), (2, .ref q_2)]) hx hb dX2_flow_43 rfl hl (by decide) rfl (fun ls hl => ?_)
      refine lv_aload_n hx hb dX2_flow_44 rfl (lv_at hl 2 rfl) ?_
      refine lv_aload_n hx hb dX2_flow_45 rfl (lv_at hl 1 rfl) ?_
      have J_36 : ∀ (H : Heap) (locs : List Loc) (j_34 : Nat), mW g.1 A (cwM g ad (mAr Mx q_2 k (skpN k 4 (n_6 + 1))) x) H → va_S A s.heap H locs → ((if w_6 = k then (nbN k n_6) else (if (x.1 2 w_6 + x.1 3 w_6) ≤ (x.1 2 (nbN k n_6) + x.1 3 (nbN k n_6)) then w_6 else (nbN k n_6))) = j_34) → W p l e rm_X2_flow s m args below meth c H locs 1 2 Q (F0 m 65 ls [.ref (ad 2 j_34)]) := by
        intro H locs j_34 hM hS ej_35
        refine lv_astore_n (lv' := [(1, .ref (ad 2 j_34)), (3, .ref (ad 2 (nbN k n_6))), (0, .ref (ad 2 k)), (2, .ref q_2)]) hx hb dX2_flow_65 rfl hl (by decide) rfl (fun ls hl => ?_)
        refine lv_goto (tgt := 14) hx hb dX2_flow_66 (by decide) ?_
        exact ih (skpN k 4 (n_6 + 1)) j_34 (skpN_le _ _ (by omega)).2 (by have := (skpN_le (k := k) 4 (n_6 + 1) (by omega)).1; omega) (skpN_on _ _ (by omega) (by omega)) (by subst ej_35; exact he) (by rw [← ej_35]; (repeat' split) <;> assumption) H locs ls hM hS (lv_sub hl [2, 0, 3] (by rfl))
      refine cc_acmp_eq hM (i := w_6) (j := k) (by omega) (by omega) (tgt := 60) hx hb dX2_flow_46 (by decide) (fun c_30 => ?_) (fun c_30 => ?_)
      · refine lv_aload_n hx hb dX2_flow_60 rfl (lv_at hl 0 rfl) ?_
        refine lv_goto (tgt := 65) hx hb dX2_flow_61 (by decide) ?_
        exact J_36 H locs _ hM hS (by first | (rw [if_pos c_30]) | rfl | (simp only [c_30, if_true, if_false, ite_true, ite_false, not_false_eq_true, reduceIte]))
      · refine lv_aload_n hx hb dX2_flow_49 rfl (lv_at hl 0 rfl) ?_
        refine m_cpi (m_rV (As := []) (rest := []) hcf (k_X2_level l g A ad (mAr Mx q_2 k (skpN k 4 (n_6 + 1))) x (nbN k n_6) (by omega)) (cwV 0 hts (lw_V q548 q549 q550 q39 q551) rfl rfl rfl (by decide +kernel) ⟨Nat.le_of_ble_eq_true rfl, Nat.le_of_ble_eq_true rfl⟩) hE hA hM hS 2 (nbN k n_6) (cw_2 (by omega)) (ci := 2) rfl rfl hl.1 rfl (Nat.le_of_ble_eq_true rfl) dX2_flow_50 ⟨Nat.le_of_ble_eq_true rfl, Nat.le_of_ble_eq_true rfl⟩) hS (fun H locs hM hS => ?_)
        refine lv_aload_n hx hb dX2_flow_53 rfl (lv_at hl 2 rfl) ?_
        refine m_cpi (m_rV (As := []) (rest := [.int (x.1 2 (nbN k n_6) + x.1 3 (nbN k n_6))]) hcf (k_X2_level l g A ad (mAr Mx q_2 k (skpN k 4 (n_6 + 1))) x w_6 (by omega)) (cwV 0 hts (lw_V q548 q549 q550 q39 q551) rfl rfl rfl (by decide +kernel) ⟨Nat.le_of_ble_eq_true rfl, Nat.le_of_ble_eq_true rfl⟩) hE hA hM hS 2 w_6 (cw_2 (by omega)) (ci := 2) rfl rfl hl.1 rfl (Nat.le_of_ble_eq_true rfl) dX2_flow_54 ⟨Nat.le_of_ble_eq_true rfl, Nat.le_of_ble_eq_true rfl⟩) hS (fun H locs hM hS => ?_)
        refine lv_icmp_ge (tgt := 64) hx hb dX2_flow_57 (by decide) (fun c_33 => ?_) (fun c_33 => ?_)
        · refine lv_aload_n hx hb dX2_flow_64 rfl (lv_at hl 2 rfl) ?_
          exact J_36 H locs _ hM hS (by first | (rw [if_neg c_30, if_pos c_33]) | rfl | (simp only [c_30, c_33, if_true, if_false, ite_true, ite_false, not_false_eq_true, reduceIte]))
        · refine lv_aload_n hx hb dX2_flow_60 rfl (lv_at hl 0 rfl) ?_
          refine lv_goto (tgt := 65) hx hb dX2_flow_61 (by decide) ?_
          exact J_36 H locs _ hM hS (by first | (rw [if_neg c_30, if_neg c_33]) | rfl | (simp only [c_30, c_33, if_true, if_false, ite_true, ite_false, not_false_eq_true, reduceIte]))
  exact L_6 4 (skpN k 4 0) k (skpN_le _ _ (by omega)).2 (by omega) (skpN_on _ _ (by omega) (by omega)) hR_6 hk H locs ls hM hS (lv_sub hl [2, 1, 0] rfl)
