/-! THE LAW'S LOOP -/
set_option maxRecDepth 100000
theorem law_cmp0 : ∀ L, L < 449 → ∀ t, t < 65 → ((Int32.ofNat L - 7 < nI (7 * t)) ↔ L < 7 * t + 7) := by decide +kernel
def OpsOK (l : Launch) (g : GG) (Inv I2 : St → Prop) : Prop := Op_ground l g Inv I2 ∧ Op_moss l g Inv I2 ∧ Op_pass l g Inv I2 ∧ Op_fire l g Inv I2 ∧ Op_breach l g Inv I2 ∧ Op_house l g Inv I2 ∧ Op_borehole l g Inv I2 ∧ Op_claim l g Inv I2 ∧ Op_month l g Inv I2 ∧ Op_cellOf l g Inv I2 ∧ Op_layerOf l g Inv I2 ∧ Op_neighbour l g Inv I2 ∧ Op_lakes l g Inv I2 ∧ Op_houseOf l g Inv I2 ∧ Op_reading l g Inv I2 ∧ Op_claimOf l g Inv I2 ∧ Op_claimAnew l g Inv I2 ∧ Op_balance l g Inv I2 ∧ Op_air l g Inv I2
theorem tab_out {x : Int32} (h : ¬ x = 0 ∧ ¬ x = 1 ∧ ¬ x = 2 ∧ ¬ x = 3 ∧ ¬ x = 4 ∧ ¬ x = 5 ∧ ¬ x = 6 ∧ ¬ x = 7 ∧ ¬ x = 8 ∧ ¬ x = 9 ∧ ¬ x = 10 ∧ ¬ x = 11 ∧ ¬ x = 12 ∧ ¬ x = 13 ∧ ¬ x = 14 ∧ ¬ x = 15 ∧ ¬ x = 16 ∧ ¬ x = 17 ∧ ¬ x = 18) : x.toInt < 0 ∨ 18 < x.toInt := by
  obtain ⟨h0, h1, h2, h3, h4, h5, h6, h7, h8, h9, h10, h11, h12, h13, h14, h15, h16, h17, h18⟩ := h
  have g0 : ¬ x.toInt = 0 := lv_neT h0 rfl
  have g1 : ¬ x.toInt = 1 := lv_neT h1 rfl
  have g2 : ¬ x.toInt = 2 := lv_neT h2 rfl
  have g3 : ¬ x.toInt = 3 := lv_neT h3 rfl
  have g4 : ¬ x.toInt = 4 := lv_neT h4 rfl
  have g5 : ¬ x.toInt = 5 := lv_neT h5 rfl
  have g6 : ¬ x.toInt = 6 := lv_neT h6 rfl
  have g7 : ¬ x.toInt = 7 := lv_neT h7 rfl
  have g8 : ¬ x.toInt = 8 := lv_neT h8 rfl
  have g9 : ¬ x.toInt = 9 := lv_neT h9 rfl
  have g10 : ¬ x.toInt = 10 := lv_neT h10 rfl
  have g11 : ¬ x.toInt = 11 := lv_neT h11 rfl
  have g12 : ¬ x.toInt = 12 := lv_neT h12 rfl
  have g13 : ¬ x.toInt = 13 := lv_neT h13 rfl
  have g14 : ¬ x.toInt = 14 := lv_neT h14 rfl
  have g15 : ¬ x.toInt = 15 := lv_neT h15 rfl
  have g16 : ¬ x.toInt = 16 := lv_neT h16 rfl
  have g17 : ¬ x.toInt = 17 := lv_neT h17 rfl
  have g18 : ¬ x.toInt = 18 := lv_neT h18 rfl
  omega
theorem law_loop {p : Program} {l : Launch} {e : Env} {s : State} {m : MethodId} {args : Array Value} {below : List Frame} {meth : Method} {c : Code} {Q : State → Prop} {H : Heap} {locs : List Loc} {ls : Array Slot} {g : GG} {b L : Nat} {xs : Nat → Int32} {Inv : Nat → St → Prop} (hcf : CallFix p m c cL_law 8 s args lw_all "WakegroundLaw") (hE : amb g (fun q => s.heap.size ≤ q) s s.heap) (hX : va_X b L xs s s.heap) (hbl : b < s.heap.size) (hops : ∀ t, t < 64 → OpsOK l g (Inv t) (Inv (t + 1))) (hmo : ∀ t z, Inv t z → Inv (t + 1) z) (hL : L ≤ 448) (adm : Nat → Nat → Nat) (oa : Nat)
    (kend : ∀ (H : Heap) (locs : List Loc) (ls : Array Slot) (k n : Nat), k ≤ 1200384 → n ≤ 5488298 → va_S (fun q => s.heap.size ≤ q) s.heap H locs → W p l e room_1 s m args below meth c H locs k n Q (F0 m 1340 ls [])) :
    ∀ (n t : Nat), t + n = 65 → 7 * t ≤ L → ∀ (z : St) (ad : Nat → Nat → Nat) (v : Int64) (H : Heap) (locs : List Loc) (ls : Array Slot), Inv t z → mW g.1 (fun q => s.heap.size ≤ q) (cwM g ad (Mo g oa v) z) H → mW g.1 (fun q => s.heap.size ≤ q) (mwM g adm z) H → apart (cwM g ad (Mo g oa v) z) (mwM g adm z) → va_S (fun q => s.heap.size ≤ q) s.heap H locs → lv_has ls 8 [(0, .ref b), (1, .ref (ad 0 0)), (2, .ref (adm 30 0)), (3, .ref oa), (4, .int (nI (7 * t)))] → W p l e room_1 s m args below meth c H locs (300 + 800 * t) (33000 + 3500 * t) Q (F0 m 23 ls []) := by
  have hx := hcf.1
  have hb := hcf.2.1
  have hbA : ¬ (fun q : Nat => s.heap.size ≤ q) b := Nat.not_le.mpr hbl
  intro n
  induction n with
  | zero => intro t h1 h2; omega
  | succ n ih =>
    intro t h1 h2 z ad v H locs ls hI hM hN hap hS hl
    refine lv_iload hx hb dL_law_23 (lv_at hl 4 rfl) ?_
    refine lv_aload_n hx hb dL_law_25 rfl (lv_at hl 0 rfl) ?_
    refine va_slen hx hb hX hbl hbA hS dL_law_26 ?_
    refine lv_bipush (v := 7) hx hb dL_law_27 (by decide) ?_
    refine lv_isub hx hb dL_law_29 ?_
    refine lv_icmp_gt (tgt := 1340) hx hb dL_law_30 (by decide) (fun _ => ?_) (fun c1 => ?_)
    · exact kend H locs ls _ _ (by omega) (by omega) hS
    have ht : 7 * t + 7 ≤ L := by
      have := law_cmp0 L (by omega) t (by omega)
      by_cases h : 7 * t + 7 ≤ L
      · exact h
      · exact absurd (this.mpr (by omega)) c1
    have kk : ∀ (z : St) (ad : Nat → Nat → Nat) (v : Int64) (H : Heap) (locs : List Loc) (ls : Array Slot), Inv (t + 1) z → mW g.1 (fun q => s.heap.size ≤ q) (cwM g ad (Mo g oa v) z) H → mW g.1 (fun q => s.heap.size ≤ q) (mwM g adm z) H → apart (cwM g ad (Mo g oa v) z) (mwM g adm z) → va_S (fun q => s.heap.size ≤ q) s.heap H locs → lv_has ls 8 [(0, .ref b), (1, .ref (ad 0 0)), (2, .ref (adm 30 0)), (3, .ref oa), (4, .int (nI (7 * t)))] → W p l e room_1 s m args below meth c H locs (300 + 800 * (t + 1)) (33000 + 3500 * (t + 1)) Q (F0 m 1334 ls []) := by
      intro z ad v H locs ls hI hM hN hap hS hl
      refine lv_iinc (v := nI (7 * (t + 1))) (lv' := [(4, .int (nI (7 * (t + 1)))), (0, .ref b), (1, .ref (ad 0 0)), (2, .ref (adm 30 0)), (3, .ref oa)]) hx hb dL_law_1334 hl (k := 4) rfl (nI_add (7 * t) 7) (by decide) rfl (fun ls hl => ?_)
      refine lv_goto (tgt := 23) hx hb dL_law_1337 (by decide) ?_
      exact ih (t + 1) (by omega) (by omega) z ad v H locs ls hI hM hN hap hS (lv_sub hl [1, 2, 3, 4, 0] rfl)
    refine lv_aload_n hx hb dL_law_33 rfl (lv_at hl 0 rfl) ?_
    refine lv_iload hx hb dL_law_34 (lv_at hl 4 rfl) ?_
    refine va_sld hx hb hX hbl hbA hS (m_in (i := nI (7 * t)) (j := 7 * t) rfl (by omega) (by omega)).1 dL_law_36 ?_
    refine lv_bipush (v := 31) hx hb dL_law_37 (by decide) ?_
    refine lv_iand hx hb dL_law_39 ?_
    obtain ⟨w, hw⟩ : ∃ w : Int32, xs (nI (7 * t)).toNatClampNeg &&& 31 = w := ⟨_, rfl⟩
    refine m_topI (y := w) hw ?_
    by_cases e0 : w = 0
    · rw [e0]
      refine lv_tableIn hx hb dL_law_40 (off := 92) (tgt := 132) (by decide +kernel) (by decide +kernel) rfl (by decide) ?_
      exact law_ground hcf hE hX hbl (hops t (by omega)).1 t ht hL z hI ad adm oa v hM hN hap hS hl kk
    by_cases e1 : w = 1
    · rw [e1]
      refine lv_tableIn hx hb dL_law_40 (off := 190) (tgt := 230) (by decide +kernel) (by decide +kernel) rfl (by decide) ?_
      exact law_moss hcf hE hX hbl (hops t (by omega)).2.1 t ht hL z hI ad adm oa v hM hN hap hS hl kk
    by_cases e2 : w = 2
    · rw [e2]
      refine lv_tableIn hx hb dL_law_40 (off := 258) (tgt := 298) (by decide +kernel) (by decide +kernel) rfl (by decide) ?_
      exact law_pass hcf hE hX hbl (hops t (by omega)).2.2.1 t ht hL z hI ad adm oa v hM hN hap hS hl kk
    by_cases e3 : w = 3
    · rw [e3]
      refine lv_tableIn hx hb dL_law_40 (off := 338) (tgt := 378) (by decide +kernel) (by decide +kernel) rfl (by decide) ?_
      exact law_fire hcf hE hX hbl (hops t (by omega)).2.2.2.1 t ht hL z hI ad adm oa v hM hN hap hS hl kk
    by_cases e4 : w = 4
    · rw [e4]
      refine lv_tableIn hx hb dL_law_40 (off := 394) (tgt := 434) (by decide +kernel) (by decide +kernel) rfl (by decide) ?_
      exact law_breach hcf hE hX hbl (hops t (by omega)).2.2.2.2.1 t ht hL z hI ad adm oa v hM hN hap hS hl kk
    by_cases e5 : w = 5
    · rw [e5]
      refine lv_tableIn hx hb dL_law_40 (off := 450) (tgt := 490) (by decide +kernel) (by decide +kernel) rfl (by decide) ?_
      exact law_house hcf hE hX hbl (hops t (by omega)).2.2.2.2.2.1 t ht hL z hI ad adm oa v hM hN hap hS hl kk
    by_cases e6 : w = 6
    · rw [e6]
      refine lv_tableIn hx hb dL_law_40 (off := 546) (tgt := 586) (by decide +kernel) (by decide +kernel) rfl (by decide) ?_
      exact law_borehole hcf hE hX hbl (hops t (by omega)).2.2.2.2.2.2.1 t ht hL z hI ad adm oa v hM hN hap hS hl kk
    by_cases e7 : w = 7
    · rw [e7]
      refine lv_tableIn hx hb dL_law_40 (off := 614) (tgt := 654) (by decide +kernel) (by decide +kernel) rfl (by decide) ?_
      exact law_claim hcf hE hX hbl (hops t (by omega)).2.2.2.2.2.2.2.1 t ht hL z hI ad adm oa v hM hN hap hS hl kk
    by_cases e8 : w = 8
    · rw [e8]
      refine lv_tableIn hx hb dL_law_40 (off := 670) (tgt := 710) (by decide +kernel) (by decide +kernel) rfl (by decide) ?_
      exact law_month hcf hE hX hbl (hops t (by omega)).2.2.2.2.2.2.2.2.1 t ht hL z hI ad adm oa v hM hN hap hS hl kk
    by_cases e9 : w = 9
    · rw [e9]
      refine lv_tableIn hx hb dL_law_40 (off := 683) (tgt := 723) (by decide +kernel) (by decide +kernel) rfl (by decide) ?_
      exact law_cellOf hcf hE hX hbl (hops t (by omega)).2.2.2.2.2.2.2.2.2.1 t ht hL z hI ad adm oa v hM hN hap hS hl kk
    by_cases e10 : w = 10
    · rw [e10]
      refine lv_tableIn hx hb dL_law_40 (off := 751) (tgt := 791) (by decide +kernel) (by decide +kernel) rfl (by decide) ?_
      exact law_layerOf hcf hE hX hbl (hops t (by omega)).2.2.2.2.2.2.2.2.2.2.1 t ht hL z hI ad adm oa v hM hN hap hS hl kk
    by_cases e11 : w = 11
    · rw [e11]
      refine lv_tableIn hx hb dL_law_40 (off := 831) (tgt := 871) (by decide +kernel) (by decide +kernel) rfl (by decide) ?_
      exact law_neighbour hcf hE hX hbl (hops t (by omega)).2.2.2.2.2.2.2.2.2.2.2.1 t ht hL z hI ad adm oa v hM hN hap hS hl kk
    by_cases e12 : w = 12
    · rw [e12]
      refine lv_tableIn hx hb dL_law_40 (off := 899) (tgt := 939) (by decide +kernel) (by decide +kernel) rfl (by decide) ?_
      exact law_lakes hcf hE hX hbl (hops t (by omega)).2.2.2.2.2.2.2.2.2.2.2.2.1 t ht hL z hI ad adm oa v hM hN hap hS hl kk
    by_cases e13 : w = 13
    · rw [e13]
      refine lv_tableIn hx hb dL_law_40 (off := 912) (tgt := 952) (by decide +kernel) (by decide +kernel) rfl (by decide) ?_
      exact law_houseOf hcf hE hX hbl (hops t (by omega)).2.2.2.2.2.2.2.2.2.2.2.2.2.1 t ht hL z hI ad adm oa v hM hN hap hS hl kk
    by_cases e14 : w = 14
    · rw [e14]
      refine lv_tableIn hx hb dL_law_40 (off := 980) (tgt := 1020) (by decide +kernel) (by decide +kernel) rfl (by decide) ?_
      exact law_reading hcf hE hX hbl (hops t (by omega)).2.2.2.2.2.2.2.2.2.2.2.2.2.2.1 t ht hL z hI ad adm oa v hM hN hap hS hl kk
    by_cases e15 : w = 15
    · rw [e15]
      refine lv_tableIn hx hb dL_law_40 (off := 1060) (tgt := 1100) (by decide +kernel) (by decide +kernel) rfl (by decide) ?_
      exact law_claimOf hcf hE hX hbl (hops t (by omega)).2.2.2.2.2.2.2.2.2.2.2.2.2.2.2.1 t ht hL z hI ad adm oa v hM hN hap hS hl kk
    by_cases e16 : w = 16
    · rw [e16]
      refine lv_tableIn hx hb dL_law_40 (off := 1116) (tgt := 1156) (by decide +kernel) (by decide +kernel) rfl (by decide) ?_
      exact law_claimAnew hcf hE hX hbl (hops t (by omega)).2.2.2.2.2.2.2.2.2.2.2.2.2.2.2.2.1 t ht hL z hI ad adm oa v hM hN hap hS hl kk
    by_cases e17 : w = 17
    · rw [e17]
      refine lv_tableIn hx hb dL_law_40 (off := 1172) (tgt := 1212) (by decide +kernel) (by decide +kernel) rfl (by decide) ?_
      exact law_balance hcf hE hX hbl (hops t (by omega)).2.2.2.2.2.2.2.2.2.2.2.2.2.2.2.2.2.1 t ht hL z hI ad adm oa v hM hN hap hS hl kk
    by_cases e18 : w = 18
    · rw [e18]
      refine lv_tableIn hx hb dL_law_40 (off := 1239) (tgt := 1279) (by decide +kernel) (by decide +kernel) rfl (by decide) ?_
      exact law_air hcf hE hX hbl (hops t (by omega)).2.2.2.2.2.2.2.2.2.2.2.2.2.2.2.2.2.2 t ht hL z hI ad adm oa v hM hN hap hS hl kk
    refine lv_tableOut hx hb dL_law_40 (tgt := 1334) (tab_out ⟨e0, e1, e2, e3, e4, e5, e6, e7, e8, e9, e10, e11, e12, e13, e14, e15, e16, e17, e18⟩) (by decide) ?_
    refine W.widen (k := 300 + 800 * (t + 1)) (n := 33000 + 3500 * (t + 1)) (by omega) (by omega) ?_
    exact kk z ad v H locs ls (hmo t z hI) hM hN hap hS hl
