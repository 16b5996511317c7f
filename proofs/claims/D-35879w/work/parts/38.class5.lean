/-! ArrayList read: size, get, checkIndex -/
set_option maxRecDepth 100000
/-- how many a list has, as a Nat -/
def cN (x : St) (i : Nat) : Nat := (cCnt x i).toNatClampNeg
/-- the lists' sizes fit their rooms -/
def lsOK (x : St) : Prop := ∀ i, i < 3 → cCnt x i = nI (cN x i) ∧ cN x i ≤ nt x 54 i ∧ nt x 54 i ≤ 49
section CL
variable {p : Program} {l : Launch} {e : Env} {R : Room} {s : State} {m : MethodId} {args : Array Value} {below : List Frame} {meth : Method} {c : Code} {H : Heap} {locs : List Loc} {cells slots : Nat} {Q : State → Prop}
variable {cc : ByteArray} {pc nL : Nat} {ls : Array Slot} {rest : List Value} {g : GG} {A : Nat → Prop} {ad : Nat → Nat → Nat} {Mx : MM} {x : St} {own : String}
theorem ce_ld (S : CallFix p m c cc nL s args lw_all own) (hE : amb g A s s.heap) (hM : mW g.1 A (cwM g ad Mx x) H) (hls : lsOK x) (i : Nat) (hi : i < 3) (j : Nat) (hj : j < cN x i) {w : Int32} (hw : w = nI j) (hdg : decode cc pc = .ok (.aaload, 1))
    (kk : W p l e R s m args below meth c H locs cells slots Q (F0 m (pc + 1) ls (.ref (cElm ad i j) :: rest))) : W p l e R s m args below meth c H locs cells slots Q (F0 m pc ls (.int w :: .ref (cEl g ad x i) :: rest)) := by
  obtain ⟨h1, h2, h3⟩ := hls i hi
  have h0 : nt x 54 i ≠ 0 := by omega
  have e1 : cEl g ad x i = ad 6 i := if_neg h0
  rw [e1]
  refine m_aald S.1 S.2.1 hE hM 6 i 5 (cw_6 hi h0) rfl j (by omega) (by omega) hw (v := .ref (cElm ad i j)) ?_ hdg kk
  have e2 : cArr ad x i j = some (cElm ad i j) := if_pos hj
  rw [e2]
  rfl
end CL
abbrev rm_J2_size : Room := { frames := 0, cells := 0, slots := 0, locals := 0 }
set_option maxHeartbeats 400000 in
theorem k_J2_size (l : Launch) (g : GG) (A : Nat → Prop) (ad : Nat → Nat → Nat) (Mx : MM) (x : St) (i : Nat) (hi : i < 3) : Met l yJ2_size (ws_ yJ2_size cJ2_size 1 (some .int)) rm_J2_size (va_Pc [.ref (ad 5 i)] (mPre g A (cwM g ad Mx x))) (pQi g A (cCnt x i) (cwM g ad Mx x)) 0 0 A := by
  refine m_start RJ2 rfl (by decide) (Nat.le_of_ble_eq_true rfl) ?_
  intro p e s m args below meth c hcf hr hlk hnm hE hA H locs hM hS ls hl
  have hx := hcf.1
  have hb := hcf.2.1
  have hml := hcf.2.2.1
  have hown := hcf.2.2.2.1
  have hts := hcf.2.2.2.2
  have hl : lv_has ls 1 [(0, .ref (ad 5 i))] := hl
  generalize hQ : MQ below (pQi g A (cCnt x i) (cwM g ad Mx x)) args s 0 0 A = Q
  refine lv_aload_n hx hb dJ2_size_0 rfl (lv_at hl 0 rfl) ?_
  refine m_get hx hb hts in_J2 hown hE hM 5 i (cw_5 (by omega)) (ci := 8) rfl 2 (by decide) (hts _ q90) (fun _ h9 => h9) rfl dJ2_size_1 ?_
  rw [← hQ]
  exact m_iret () hx hb hr rfl hlk hM hS (by first | rfl) (by first | decide | omega) (by first | decide | omega) dJ2_size_4

abbrev rm_J16_checkIndex : Room := { frames := 0, cells := 0, slots := 0, locals := 0 }
set_option maxHeartbeats 400000 in
theorem k_J16_checkIndex (l : Launch) (g : GG) (A : Nat → Prop) (M : MM) (n cn : Nat) (hn : n < cn) (hc : cn < 2 ^ 31) : Met l yJ16_checkIndex (ws_ yJ16_checkIndex cJ16_checkIndex 3 (some .int)) rm_J16_checkIndex (va_Pc [.int (nI n), .int (nI cn), .null] (mPre g A (M))) (pQi g A (nI n) M) 0 0 A := by
  refine m_start RJ16 rfl (by decide) (Nat.le_of_ble_eq_true rfl) ?_
  intro p e s m args below meth c hcf hr hlk hnm hE hA H locs hM hS ls hl
  have hx := hcf.1
  have hb := hcf.2.1
  have hml := hcf.2.2.1
  have hown := hcf.2.2.2.1
  have hts := hcf.2.2.2.2
  have hl : lv_has ls 3 [(0, .int (nI n)), (1, .int (nI cn)), (2, .null)] := hl
  generalize hQ : MQ below (pQi g A (nI n) M) args s 0 0 A = Q
  refine lv_iload_n hx hb dJ16_checkIndex_0 rfl (lv_at hl 0 rfl) ?_
  refine lv_if_lt (tgt := 9) hx hb dJ16_checkIndex_1 (by decide) (fun c9 => absurd c9 (nI_pos (by omega))) (fun _ => ?_)
  refine lv_iload_n hx hb dJ16_checkIndex_4 rfl (lv_at hl 0 rfl) ?_
  refine lv_iload_n hx hb dJ16_checkIndex_5 rfl (lv_at hl 1 rfl) ?_
  refine lv_icmp_lt (tgt := 16) hx hb dJ16_checkIndex_6 (by decide) (fun _ => ?_) (fun c9 => absurd (nI_lt hn hc) c9)
  refine lv_iload_n hx hb dJ16_checkIndex_16 rfl (lv_at hl 0 rfl) ?_
  rw [← hQ]
  exact m_iret () hx hb hr rfl hlk hM hS (by first | rfl) (by first | decide | omega) (by first | decide | omega) dJ16_checkIndex_17

abbrev rm_J15_checkIndex : Room := { frames := 1, cells := 0, slots := 0, locals := 22 }
set_option maxHeartbeats 400000 in
theorem k_J15_checkIndex (l : Launch) (g : GG) (A : Nat → Prop) (M : MM) (n cn : Nat) (hn : n < cn) (hc : cn < 2 ^ 31) : Met l yJ15_checkIndex (ws_ yJ15_checkIndex cJ15_checkIndex 2 (some .int)) rm_J15_checkIndex (va_Pc [.int (nI n), .int (nI cn)] (mPre g A (M))) (pQi g A (nI n) M) 0 0 A := by
  refine m_start RJ15 rfl (by decide) (Nat.le_of_ble_eq_true rfl) ?_
  intro p e s m args below meth c hcf hr hlk hnm hE hA H locs hM hS ls hl
  have hx := hcf.1
  have hb := hcf.2.1
  have hml := hcf.2.2.1
  have hown := hcf.2.2.2.1
  have hts := hcf.2.2.2.2
  have hl : lv_has ls 2 [(0, .int (nI n)), (1, .int (nI cn))] := hl
  generalize hQ : MQ below (pQi g A (nI n) M) args s 0 0 A = Q
  refine lv_iload_n hx hb dJ15_checkIndex_0 rfl (lv_at hl 0 rfl) ?_
  refine lv_iload_n hx hb dJ15_checkIndex_1 rfl (lv_at hl 1 rfl) ?_
  refine lv_null hx hb dJ15_checkIndex_2 ?_
  refine m_cpi (m_rS (As := [.int (nI n), .int (nI cn), .null]) (rest := []) hcf (k_J16_checkIndex l g A (M) n cn (by omega) (by omega)) (va_cwS 3 hts (lw_S q586 q587 q57 q588) rfl rfl rfl (by decide +kernel) ⟨Nat.le_of_ble_eq_true rfl, Nat.le_of_ble_eq_true rfl⟩) hE hA hM hS rfl hl.1 rfl (Nat.le_of_ble_eq_true rfl) dJ15_checkIndex_3 ⟨Nat.le_of_ble_eq_true rfl, Nat.le_of_ble_eq_true rfl⟩) hS (fun H locs hM hS => ?_)
  rw [← hQ]
  exact m_iret () hx hb hr rfl hlk hM hS (by first | rfl) (by first | decide | omega) (by first | decide | omega) dJ15_checkIndex_6

abbrev rm_J2_elementData : Room := { frames := 0, cells := 0, slots := 0, locals := 0 }
set_option maxHeartbeats 400000 in
theorem k_J2_elementData (l : Launch) (g : GG) (A : Nat → Prop) (ad : Nat → Nat → Nat) (Mx : MM) (x : St) (hls : lsOK x) (i : Nat) (hi : i < 3) (j : Nat) (hj : j < cN x i) : Met l yJ2_elementData (ws_ yJ2_elementData cJ2_elementData 2 (some (.object "java/lang/Object"))) rm_J2_elementData (va_Pc [.ref (ad 5 i), .int (nI j)] (mPre g A (cwM g ad Mx x))) (pQr g A (cElm ad i j) (cwM g ad Mx x)) 0 0 A := by
  refine m_start RJ2 rfl (by decide) (Nat.le_of_ble_eq_true rfl) ?_
  intro p e s m args below meth c hcf hr hlk hnm hE hA H locs hM hS ls hl
  have hx := hcf.1
  have hb := hcf.2.1
  have hml := hcf.2.2.1
  have hown := hcf.2.2.2.1
  have hts := hcf.2.2.2.2
  have hl : lv_has ls 2 [(0, .ref (ad 5 i)), (1, .int (nI j))] := hl
  generalize hQ : MQ below (pQr g A (cElm ad i j) (cwM g ad Mx x)) args s 0 0 A = Q
  refine lv_aload_n hx hb dJ2_elementData_0 rfl (lv_at hl 0 rfl) ?_
  refine m_get hx hb hts in_J2 hown hE hM 5 i (cw_5 (by omega)) (ci := 8) rfl 1 (by decide) (hts _ q89) (fun _ h9 => h9) rfl dJ2_elementData_1 ?_
  refine lv_iload_n hx hb dJ2_elementData_4 rfl (lv_at hl 1 rfl) ?_
  refine ce_ld hcf hE hM hls i (by omega) j hj rfl dJ2_elementData_5 ?_
  rw [← hQ]
  exact m_aret () hx hb hr (by first | exact Or.inl ⟨_, rfl⟩ | exact Or.inr ⟨_, rfl⟩) hlk hM hS trivial rfl (by first | decide | omega) (by first | decide | omega) dJ2_elementData_6

abbrev rm_J2_get : Room := { frames := 2, cells := 0, slots := 0, locals := 43 }
set_option maxHeartbeats 400000 in
theorem k_J2_get (l : Launch) (g : GG) (A : Nat → Prop) (ad : Nat → Nat → Nat) (Mx : MM) (x : St) (hls : lsOK x) (i : Nat) (hi : i < 3) (j : Nat) (hj : j < cN x i) : Met l yJ2_get (ws_ yJ2_get cJ2_get 2 (some (.object "java/lang/Object"))) rm_J2_get (va_Pc [.ref (ad 5 i), .int (nI j)] (mPre g A (cwM g ad Mx x))) (pQr g A (cElm ad i j) (cwM g ad Mx x)) 0 0 A := by
  refine m_start RJ2 rfl (by decide) (Nat.le_of_ble_eq_true rfl) ?_
  intro p e s m args below meth c hcf hr hlk hnm hE hA H locs hM hS ls hl
  have hx := hcf.1
  have hb := hcf.2.1
  have hml := hcf.2.2.1
  have hown := hcf.2.2.2.1
  have hts := hcf.2.2.2.2
  have hl : lv_has ls 2 [(0, .ref (ad 5 i)), (1, .int (nI j))] := hl
  generalize hQ : MQ below (pQr g A (cElm ad i j) (cwM g ad Mx x)) args s 0 0 A = Q
  refine lv_iload_n hx hb dJ2_get_0 rfl (lv_at hl 1 rfl) ?_
  refine lv_aload_n hx hb dJ2_get_1 rfl (lv_at hl 0 rfl) ?_
  refine m_get hx hb hts in_J2 hown hE hM 5 i (cw_5 (by omega)) (ci := 8) rfl 2 (by decide) (hts _ q90) (fun _ h9 => h9) rfl dJ2_get_2 ?_
  refine m_topI (y := nI (cN x i)) ((hls i hi).1) ?_
  refine m_cpi (m_rS (As := [.int (nI j), .int (nI (cN x i))]) (rest := []) hcf (k_J15_checkIndex l g A (cwM g ad Mx x) j (cN x i) hj (by have := hls i hi; omega)) (va_cwS 2 hts (lw_S q583 q584 q56 q585) rfl rfl rfl (by decide +kernel) ⟨Nat.le_of_ble_eq_true rfl, Nat.le_of_ble_eq_true rfl⟩) hE hA hM hS rfl hl.1 rfl (Nat.le_of_ble_eq_true rfl) dJ2_get_5 ⟨Nat.le_of_ble_eq_true rfl, Nat.le_of_ble_eq_true rfl⟩) hS (fun H locs hM hS => ?_)
  refine lv_pop hx hb dJ2_get_8 rfl ?_
  refine lv_aload_n hx hb dJ2_get_9 rfl (lv_at hl 0 rfl) ?_
  refine lv_iload_n hx hb dJ2_get_10 rfl (lv_at hl 1 rfl) ?_
  refine m_cpr (m_rV (As := [.int (nI j)]) (rest := []) hcf (k_J2_elementData l g A ad Mx x hls i (by omega) j hj) (cwV 1 hts (lw_V q589 q590 q591 q38 q592) rfl rfl rfl (by decide +kernel) ⟨Nat.le_of_ble_eq_true rfl, Nat.le_of_ble_eq_true rfl⟩) hE hA hM hS 5 i (cw_5 (by omega)) (ci := 8) rfl rfl hl.1 rfl (Nat.le_of_ble_eq_true rfl) dJ2_get_11 ⟨Nat.le_of_ble_eq_true rfl, Nat.le_of_ble_eq_true rfl⟩) hS (fun H locs hM hS => ?_)
  rw [← hQ]
  exact m_aret () hx hb hr (by first | exact Or.inl ⟨_, rfl⟩ | exact Or.inr ⟨_, rfl⟩) hlk hM hS trivial rfl (by first | decide | omega) (by first | decide | omega) dJ2_get_14
