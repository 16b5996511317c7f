/-! JDK arithmetic; the class's layers and cells -/
set_option maxRecDepth 100000
def jmin (a b : Int32) : Int32 := if b < a then b else a
def jmax (a b : Int32) : Int32 := if a < b then b else a
def jminL (a b : Int64) : Int64 := if 0 < lg_cmp a b then b else a
def jfd (a b : Int32) : Int32 := if 0 ≤ a ^^^ b then a / b else (if a / b * b = a then a / b else a / b - 1)
def cdeg (x : St) (k : Nat) : Int32 := if 0 ≤ x.1 10 k then (if x.1 10 k ≤ 1000 * (x.1 8 k + x.1 9 k) then 0 else (x.1 10 k - 1000 * (x.1 8 k + x.1 9 k)) / 100) else x.1 10 k / 100
def cmel (x : St) (k : Nat) : Int32 := jmax 0 (jmin (x.1 8 k + x.1 9 k) (jfd (x.1 10 k) 1000))
def cdrG (x : St) (k : Nat) : Int32 := jmax 0 (cmel x k - x.1 8 k)
def cdrF (x : St) (k : Nat) : St := sI (sI x 9 k (x.1 9 k - cdrG x k)) 10 k ((sI x 9 k (x.1 9 k - cdrG x k)).1 10 k - 1000 * cdrG x k)
def cwkG (x : St) (k : Nat) : Int32 := if 0 < cdeg x k then (jminL (x.1 11 k).toInt64 ((cdeg x k).toInt64 * (x.1 11 k).toInt64 / 1000)).toInt32 else 0
def cwkF (x : St) (k : Nat) : St := sI x 11 k (x.1 11 k - cwkG x k)
def cthF (x : St) (k : Nat) : Int32 := if x.1 10 k < 0 then 0 else 1
theorem cthF_nar (x : St) (k : Nat) : narrow .boolean (.int (cthF x k)) = .int (cthF x k) := by
  unfold cthF
  split <;> rfl
def clkF (x : St) (k : Nat) : Int32 := if x.1 3 k < 3 then 0 else 1
theorem clkF_nar (x : St) (k : Nat) : narrow .boolean (.int (clkF x k)) = .int (clkF x k) := by
  unfold clkF
  split <;> rfl
def chtF (x : St) (h : Nat) (air : Int32) : Int32 := 300 - (if x.1 16 h = 0 then 0 else (if 0 ≤ air then 0 else 300))
theorem cHou_some {ad : Nat → Nat → Nat} {x : St} {c : Nat} (h : ¬ x.1 52 c = (-1)) : va_rf (cHou ad x c) = .ref (ad 7 (nt x 52 c)) := by
  unfold cHou
  rw [if_neg h]
  rfl
theorem cHou_none {ad : Nat → Nat → Nat} {x : St} {c : Nat} (h : x.1 52 c = (-1)) : va_rf (cHou ad x c) = .null := by
  unfold cHou
  rw [if_pos h]
  rfl
section CHQ
variable {p : Program} {l : Launch} {e : Env} {R : Room} {s : State} {m : MethodId} {args : Array Value} {below : List Frame} {meth : Method} {c : Code} {H : Heap} {locs : List Loc} {cells slots : Nat} {Q : State → Prop}
variable {cc : ByteArray} {pc : Nat} {ls : Array Slot} {rest : List Value} {ad : Nat → Nat → Nat} {x : St} {k : Nat}
theorem m_topV {v w : Value} (h : v = w) (kk : W p l e R s m args below meth c H locs cells slots Q (F0 m pc ls (w :: rest))) : W p l e R s m args below meth c H locs cells slots Q (F0 m pc ls (v :: rest)) := by rw [h]; exact kk
theorem ch_ifnonnull (hx : p.tables.exec = Jvm.exec) (hb : c.code = cc) {off : Int} {tgt : Nat} (hdg : decode cc pc = .ok (.ifnonnull off, 3)) (ht : (pc : Int) + off = (tgt : Int)) (kt : ¬ x.1 52 k = (-1) → W p l e R s m args below meth c H locs cells slots Q (F0 m tgt ls rest)) (kf : x.1 52 k = (-1) → W p l e R s m args below meth c H locs cells slots Q (F0 m (pc + 3) ls rest)) : W p l e R s m args below meth c H locs cells slots Q (F0 m pc ls (va_rf (cHou ad x k) :: rest)) := by
  by_cases h : x.1 52 k = (-1)
  · rw [cHou_none h]
    exact lv_ifnonnullN hx hb hdg (kf h)
  · rw [cHou_some h]
    exact lv_ifnonnull hx hb hdg ht (kt h)
end CHQ
def ledT (x : St) (k : Nat) (air : Int32) : Int32 := if clkF x k = 0 then 60 / (2 + x.1 4 k + 2 * x.1 5 k) * (air - cdeg x (5 * k + 0)) else 30 * (jmax 0 air - cdeg x (5 * k + 0))
def ledO (x : St) (k : Nat) (air : Int32) : Int32 := if x.1 52 k = (-1) then 0 else chtF x (nt x 52 k) air
def ledA (x : St) (k : Nat) (air : Int32) : St := sI x 10 (5 * k + 0) (x.1 10 (5 * k + 0) + (ledT x k air + ledO x k air))
def ledS (k : Nat) (q : St × Int32) (l : Nat) : St × Int32 := (sI (sI q.1 10 (5 * k + (l - 1)) (q.1.1 10 (5 * k + (l - 1)) - 20 * (q.2 - cdeg q.1 (5 * k + l)))) 10 (5 * k + l) ((sI q.1 10 (5 * k + (l - 1)) (q.1.1 10 (5 * k + (l - 1)) - 20 * (q.2 - cdeg q.1 (5 * k + l)))).1 10 (5 * k + l) + 20 * (q.2 - cdeg q.1 (5 * k + l))), cdeg q.1 (5 * k + l))
def ledQ (x : St) (k : Nat) (air : Int32) : St × Int32 := ledS k (ledS k (ledS k (ledS k (ledA x k air, cdeg x (5 * k + 0)) 1) 2) 3) 4
def ledF (x : St) (k : Nat) (air : Int32) : St := sI (ledQ x k air).1 10 (5 * k + 4) ((ledQ x k air).1.1 10 (5 * k + 4) + 10)
def cmlS (k : Nat) (y : St) (l : Nat) : St := sI (sI (cdrF y (5 * k + l)) 2 k ((cdrF y (5 * k + l)).1 2 k - cdrG y (5 * k + l))) 3 k ((sI (cdrF y (5 * k + l)) 2 k ((cdrF y (5 * k + l)).1 2 k - cdrG y (5 * k + l))).1 3 k + cdrG y (5 * k + l))
def cmlF (x : St) (k : Nat) : St := cmlS k (cmlS k (cmlS k (cmlS k (cmlS k x 0) 1) 2) 3) 4
def ccrW (x : St) (k : Nat) : St := sI x 6 k (x.1 6 k + 1)
def ccrF (x : St) (k : Nat) : St := if (ccrW x k).1 3 k ≤ 0 then ccrW x k else (if 9 ≤ (ccrW x k).1 9 (5 * k + 1) then ccrW x k else
  sI (sI (sI (sI (ccrW x k) 3 k ((ccrW x k).1 3 k - 1)) 9 (5 * k + 1) ((sI (ccrW x k) 3 k ((ccrW x k).1 3 k - 1)).1 9 (5 * k + 1) + 1)) 10 (5 * k + 1) (x.1 10 (5 * k + 1) + 1000)) 2 k (x.1 2 k + 1))
def cliI (x : St) (k : Nat) : Nat := if clkF x k = 0 then 0 else 1
def cliS (j k : Nat) (y : St) (l : Nat) : St := sL (cwkF y (5 * k + l)) (30 + j) (y.2 (30 + j) + (cwkG y (5 * k + l)).toInt64)
def cliL (j k : Nat) (x : St) : Nat → St := it (cliS j k) x
theorem cliL_s (j k : Nat) (x : St) (i : Nat) : cliL j k x (i + 1) = cliS j k (cliL j k x i) i := it_succ _ _ _
def cliE (y : St) (k : Nat) (air : Int32) : St := if air ≤ 0 then y else (if clkF y k = 0 then sI (sL y 30 (y.2 30 - (y.1 5 k).toInt64)) 11 (5 * k + 0) ((sL y 30 (y.2 30 - (y.1 5 k).toInt64)).1 11 (5 * k + 0) + (sL y 30 (y.2 30 - (y.1 5 k).toInt64)).1 5 k) else y)
def cliF (x : St) (k : Nat) (air : Int32) : St := cliE (cliL (cliI x k) k x 5) k air
def ctaF (x : St) (k : Nat) : Int32 := if cthF x (5 * k + 0) = 0 then 0 else (if cthF x (5 * k + 1) = 0 then 1 else (if cthF x (5 * k + 2) = 0 then 2 else (if cthF x (5 * k + 3) = 0 then 3 else (if cthF x (5 * k + 4) = 0 then 4 else 5))))
abbrev rm_J11_min : Room := { frames := 0, cells := 0, slots := 0, locals := 0 }
set_option maxHeartbeats 400000 in
theorem k_J11_min (l : Launch) (g : GG) (A : Nat → Prop) (M : MM) (a0 a1 : Int32) : Met l yJ11_min (ws_ yJ11_min cJ11_min 2 (some .int)) rm_J11_min (va_Pc [.int a0, .int a1] (mPre g A (M))) (pQi g A (jmin a0 a1) M) 0 0 A := by
  refine m_startF RJ11 rfl (by decide +kernel) (Nat.le_of_ble_eq_true rfl) ?_
  intro p e s m args below meth c hcf hr hlk hnm hE hA H locs hM hS ls hl
  have hx := hcf.1
  have hb := hcf.2.1
  have hml := hcf.2.2.1
  have hown := hcf.2.2.2.1
  have hts := hcf.2.2.2.2
  have hl : lv_has ls 2 [(0, .int a0), (1, .int a1)] := hl
  generalize hQ : MQ below (pQi g A (jmin a0 a1) M) args s 0 0 A = Q
  refine lv_iload_n hx hb dJ11_min_0 rfl (lv_at hl 0 rfl) ?_
  refine lv_iload_n hx hb dJ11_min_1 rfl (lv_at hl 1 rfl) ?_
  have J_4 : ∀ (v_2 : Int32), ((if a1 < a0 then a1 else a0) = v_2) → W p l e rm_J11_min s m args below meth c H locs 0 0 Q (F0 m 10 ls [.int v_2]) := by
    intro v_2 ev_3
    rw [← hQ]
    exact m_iret () hx hb hr rfl hlk hM hS (by subst ev_3; first | rfl | (unfold jmin; rfl)) (by first | decide | omega) (by first | decide | omega) dJ11_min_10
  refine lv_icmp_gt (tgt := 9) hx hb dJ11_min_2 (by decide) (fun c_1 => ?_) (fun c_1 => ?_)
  · refine lv_iload_n hx hb dJ11_min_9 rfl (lv_at hl 1 rfl) ?_
    exact J_4 _ (by first | (rw [if_pos c_1]) | rfl | (simp only [c_1, if_true, if_false, ite_true, ite_false, not_false_eq_true, reduceIte]))
  · refine lv_iload_n hx hb dJ11_min_5 rfl (lv_at hl 0 rfl) ?_
    refine lv_goto (tgt := 10) hx hb dJ11_min_6 (by decide) ?_
    exact J_4 _ (by first | (rw [if_neg c_1]) | rfl | (simp only [c_1, if_true, if_false, ite_true, ite_false, not_false_eq_true, reduceIte]))

abbrev rm_J11_max : Room := { frames := 0, cells := 0, slots := 0, locals := 0 }
set_option maxHeartbeats 400000 in
theorem k_J11_max (l : Launch) (g : GG) (A : Nat → Prop) (M : MM) (a0 a1 : Int32) : Met l yJ11_max (ws_ yJ11_max cJ11_max 2 (some .int)) rm_J11_max (va_Pc [.int a0, .int a1] (mPre g A (M))) (pQi g A (jmax a0 a1) M) 0 0 A := by
  refine m_startF RJ11 rfl (by decide +kernel) (Nat.le_of_ble_eq_true rfl) ?_
  intro p e s m args below meth c hcf hr hlk hnm hE hA H locs hM hS ls hl
  have hx := hcf.1
  have hb := hcf.2.1
  have hml := hcf.2.2.1
  have hown := hcf.2.2.2.1
  have hts := hcf.2.2.2.2
  have hl : lv_has ls 2 [(0, .int a0), (1, .int a1)] := hl
  generalize hQ : MQ below (pQi g A (jmax a0 a1) M) args s 0 0 A = Q
  refine lv_iload_n hx hb dJ11_max_0 rfl (lv_at hl 0 rfl) ?_
  refine lv_iload_n hx hb dJ11_max_1 rfl (lv_at hl 1 rfl) ?_
  have J_4 : ∀ (v_2 : Int32), ((if a0 < a1 then a1 else a0) = v_2) → W p l e rm_J11_max s m args below meth c H locs 0 0 Q (F0 m 10 ls [.int v_2]) := by
    intro v_2 ev_3
    rw [← hQ]
    exact m_iret () hx hb hr rfl hlk hM hS (by subst ev_3; first | rfl | (unfold jmax; rfl)) (by first | decide | omega) (by first | decide | omega) dJ11_max_10
  refine lv_icmp_lt (tgt := 9) hx hb dJ11_max_2 (by decide) (fun c_1 => ?_) (fun c_1 => ?_)
  · refine lv_iload_n hx hb dJ11_max_9 rfl (lv_at hl 1 rfl) ?_
    exact J_4 _ (by first | (rw [if_pos c_1]) | rfl | (simp only [c_1, if_true, if_false, ite_true, ite_false, not_false_eq_true, reduceIte]))
  · refine lv_iload_n hx hb dJ11_max_5 rfl (lv_at hl 0 rfl) ?_
    refine lv_goto (tgt := 10) hx hb dJ11_max_6 (by decide) ?_
    exact J_4 _ (by first | (rw [if_neg c_1]) | rfl | (simp only [c_1, if_true, if_false, ite_true, ite_false, not_false_eq_true, reduceIte]))

abbrev rm_J11_floorDiv : Room := { frames := 0, cells := 0, slots := 0, locals := 0 }
set_option maxHeartbeats 400000 in
theorem k_J11_floorDiv (l : Launch) (g : GG) (A : Nat → Prop) (M : MM) (a0 a1 : Int32) (h0 : ¬ a1 = 0) : Met l yJ11_floorDiv (ws_ yJ11_floorDiv cJ11_floorDiv 3 (some .int)) rm_J11_floorDiv (va_Pc [.int a0, .int a1] (mPre g A (M))) (pQi g A (jfd a0 a1) M) 0 0 A := by
  refine m_startF RJ11 rfl (by decide +kernel) (Nat.le_of_ble_eq_true rfl) ?_
  intro p e s m args below meth c hcf hr hlk hnm hE hA H locs hM hS ls hl
  have hx := hcf.1
  have hb := hcf.2.1
  have hml := hcf.2.2.1
  have hown := hcf.2.2.2.1
  have hts := hcf.2.2.2.2
  have hl : lv_has ls 3 [(0, .int a0), (1, .int a1)] := hl
  generalize hQ : MQ below (pQi g A (jfd a0 a1) M) args s 0 0 A = Q
  refine lv_iload_n hx hb dJ11_floorDiv_0 rfl (lv_at hl 0 rfl) ?_
  refine lv_iload_n hx hb dJ11_floorDiv_1 rfl (lv_at hl 1 rfl) ?_
  refine lv_idiv hx hb dJ11_floorDiv_2 h0 ?_
  refine lv_istore_n (lv' := [(2, .int (a0 / a1)), (0, .int a0), (1, .int a1)]) hx hb dJ11_floorDiv_3 rfl hl (by decide) rfl (fun ls hl => ?_)
  refine lv_iload_n hx hb dJ11_floorDiv_4 rfl (lv_at hl 1 rfl) ?_
  refine lv_iload_n hx hb dJ11_floorDiv_5 rfl (lv_at hl 2 rfl) ?_
  refine lv_ixor hx hb dJ11_floorDiv_6 ?_
  refine lv_if_ge (tgt := 21) hx hb dJ11_floorDiv_7 (by decide) (fun c_2 => ?_) (fun c_2 => ?_)
  · refine lv_iload_n hx hb dJ11_floorDiv_21 rfl (lv_at hl 0 rfl) ?_
    rw [← hQ]
    exact m_iret () hx hb hr rfl hlk hM hS (by first | (unfold jfd; rw [if_pos c_2] <;> rfl) | rfl | (unfold jfd; rfl) | (unfold jfd; simp only [c_2, if_true, if_false, ite_true, ite_false, not_false_eq_true, reduceIte] <;> rfl) | (rw [if_pos c_2] <;> rfl)) (by first | decide | omega) (by first | decide | omega) dJ11_floorDiv_22
  · refine lv_iload_n hx hb dJ11_floorDiv_10 rfl (lv_at hl 0 rfl) ?_
    refine lv_iload_n hx hb dJ11_floorDiv_11 rfl (lv_at hl 2 rfl) ?_
    refine lv_imul hx hb dJ11_floorDiv_12 ?_
    refine lv_iload_n hx hb dJ11_floorDiv_13 rfl (lv_at hl 1 rfl) ?_
    refine lv_icmp_eq (tgt := 21) hx hb dJ11_floorDiv_14 (by decide) (fun c_3 => ?_) (fun c_3 => ?_)
    · refine lv_iload_n hx hb dJ11_floorDiv_21 rfl (lv_at hl 0 rfl) ?_
      rw [← hQ]
      exact m_iret () hx hb hr rfl hlk hM hS (by first | (unfold jfd; rw [if_neg c_2, if_pos c_3] <;> rfl) | rfl | (unfold jfd; rfl) | (unfold jfd; simp only [c_2, c_3, if_true, if_false, ite_true, ite_false, not_false_eq_true, reduceIte] <;> rfl) | (rw [if_neg c_2, if_pos c_3] <;> rfl)) (by first | decide | omega) (by first | decide | omega) dJ11_floorDiv_22
    · refine lv_iload_n hx hb dJ11_floorDiv_17 rfl (lv_at hl 0 rfl) ?_
      refine lv_iconst (v := 1) hx hb dJ11_floorDiv_18 (by decide) ?_
      refine lv_isub hx hb dJ11_floorDiv_19 ?_
      rw [← hQ]
      exact m_iret () hx hb hr rfl hlk hM hS (by first | (unfold jfd; rw [if_neg c_2, if_neg c_3] <;> rfl) | rfl | (unfold jfd; rfl) | (unfold jfd; simp only [c_2, c_3, if_true, if_false, ite_true, ite_false, not_false_eq_true, reduceIte] <;> rfl) | (rw [if_neg c_2, if_neg c_3] <;> rfl)) (by first | decide | omega) (by first | decide | omega) dJ11_floorDiv_20

abbrev rm_J11_min_2 : Room := { frames := 0, cells := 0, slots := 0, locals := 0 }
set_option maxHeartbeats 400000 in
theorem k_J11_min_2 (l : Launch) (g : GG) (A : Nat → Prop) (M : MM) (a0 a1 : Int64) : Met l yJ11_min_2 (ws_ yJ11_min_2 cJ11_min_2 4 (some .long)) rm_J11_min_2 (va_Pc [.long a0, .long a1] (mPre g A (M))) (pQl g A (jminL a0 a1) M) 0 0 A := by
  refine m_startF RJ11 rfl (by decide +kernel) (Nat.le_of_ble_eq_true rfl) ?_
  intro p e s m args below meth c hcf hr hlk hnm hE hA H locs hM hS ls hl
  have hx := hcf.1
  have hb := hcf.2.1
  have hml := hcf.2.2.1
  have hown := hcf.2.2.2.1
  have hts := hcf.2.2.2.2
  have hl : lv_has ls 4 [(0, .long a0), (2, .long a1)] := hl
  generalize hQ : MQ below (pQl g A (jminL a0 a1) M) args s 0 0 A = Q
  refine lv_lload_n hx hb dJ11_min_2_0 rfl (lv_at hl 0 rfl) ?_
  refine lv_lload_n hx hb dJ11_min_2_1 rfl (lv_at hl 1 rfl) ?_
  refine W.lcmp hx hb dJ11_min_2_2 ?_
  have J_4 : ∀ (v_2 : Int64), ((if 0 < (lg_cmp a0 a1) then a1 else a0) = v_2) → W p l e rm_J11_min_2 s m args below meth c H locs 0 0 Q (F0 m 11 ls [.long v_2]) := by
    intro v_2 ev_3
    rw [← hQ]
    exact m_lret () hx hb hr hlk hM hS (by subst ev_3; first | rfl | (unfold jminL; rfl)) (by first | decide | omega) (by first | decide | omega) dJ11_min_2_11
  refine lv_if_gt (tgt := 10) hx hb dJ11_min_2_3 (by decide) (fun c_1 => ?_) (fun c_1 => ?_)
  · refine lv_lload_n hx hb dJ11_min_2_10 rfl (lv_at hl 1 rfl) ?_
    exact J_4 _ (by first | (rw [if_pos c_1]) | rfl | (simp only [c_1, if_true, if_false, ite_true, ite_false, not_false_eq_true, reduceIte]))
  · refine lv_lload_n hx hb dJ11_min_2_6 rfl (lv_at hl 0 rfl) ?_
    refine lv_goto (tgt := 11) hx hb dJ11_min_2_7 (by decide) ?_
    exact J_4 _ (by first | (rw [if_neg c_1]) | rfl | (simp only [c_1, if_true, if_false, ite_true, ite_false, not_false_eq_true, reduceIte]))

abbrev rm_X3_temperature : Room := { frames := 0, cells := 0, slots := 0, locals := 0 }
set_option maxHeartbeats 400000 in
theorem k_X3_temperature (l : Launch) (g : GG) (A : Nat → Prop) (ad : Nat → Nat → Nat) (Mx : MM) (x : St) (k : Nat) (hk : k < 125) : Met l yX3_temperature (ws_ yX3_temperature cX3_temperature 2 (some .int)) rm_X3_temperature (va_Pc [.ref (ad 4 k)] (mPre g A (cwM g ad Mx x))) (pQi g A (cdeg x k) (cwM g ad Mx x)) 0 0 A := by
  refine m_start RX3 rfl (by decide) (Nat.le_of_ble_eq_true rfl) ?_
  intro p e s m args below meth c hcf hr hlk hnm hE hA H locs hM hS ls hl
  have hx := hcf.1
  have hb := hcf.2.1
  have hml := hcf.2.2.1
  have hown := hcf.2.2.2.1
  have hts := hcf.2.2.2.2
  have hl : lv_has ls 2 [(0, .ref (ad 4 k))] := hl
  generalize hQ : MQ below (pQi g A (cdeg x k) (cwM g ad Mx x)) args s 0 0 A = Q
  refine lv_sipush (v := 1000) hx hb dX3_temperature_0 (by decide) ?_
  refine lv_aload_n hx hb dX3_temperature_3 rfl (lv_at hl 0 rfl) ?_
  refine m_get hx hb hts in_X3 hown hE hM 4 k (cw_4 (by omega)) (ci := 3) rfl 0 (by decide) (hts _ q113) (fun _ h9 => h9) rfl dX3_temperature_4 ?_
  refine lv_aload_n hx hb dX3_temperature_7 rfl (lv_at hl 0 rfl) ?_
  refine m_get hx hb hts in_X3 hown hE hM 4 k (cw_4 (by omega)) (ci := 3) rfl 1 (by decide) (hts _ q116) (fun _ h9 => h9) rfl dX3_temperature_8 ?_
  refine lv_iadd hx hb dX3_temperature_11 ?_
  refine lv_imul hx hb dX3_temperature_12 ?_
  refine lv_istore_n (lv' := [(1, .int (1000 * ((x.1 8 k) + (x.1 9 k)))), (0, .ref (ad 4 k))]) hx hb dX3_temperature_13 rfl hl (by decide) rfl (fun ls hl => ?_)
  refine lv_aload_n hx hb dX3_temperature_14 rfl (lv_at hl 1 rfl) ?_
  refine m_get hx hb hts in_X3 hown hE hM 4 k (cw_4 (by omega)) (ci := 3) rfl 2 (by decide) (hts _ q118) (fun _ h9 => h9) rfl dX3_temperature_15 ?_
  have J_6 : ∀ (v_4 : Int32), ((if 0 ≤ (x.1 10 k) then (if (x.1 10 k) ≤ (1000 * ((x.1 8 k) + (x.1 9 k))) then 0 else (((x.1 10 k) - (1000 * ((x.1 8 k) + (x.1 9 k)))) / 100)) else ((x.1 10 k) / 100)) = v_4) → W p l e rm_X3_temperature s m args below meth c H locs 0 0 Q (F0 m 52 ls [.int v_4]) := by
    intro v_4 ev_5
    rw [← hQ]
    exact m_iret () hx hb hr rfl hlk hM hS (by subst ev_5; first | rfl | (unfold cdeg; rfl)) (by first | decide | omega) (by first | decide | omega) dX3_temperature_52
  refine lv_if_ge (tgt := 31) hx hb dX3_temperature_18 (by decide) (fun c_2 => ?_) (fun c_2 => ?_)
  · refine lv_aload_n hx hb dX3_temperature_31 rfl (lv_at hl 1 rfl) ?_
    refine m_get hx hb hts in_X3 hown hE hM 4 k (cw_4 (by omega)) (ci := 3) rfl 2 (by decide) (hts _ q118) (fun _ h9 => h9) rfl dX3_temperature_32 ?_
    refine lv_iload_n hx hb dX3_temperature_35 rfl (lv_at hl 0 rfl) ?_
    refine lv_icmp_le (tgt := 51) hx hb dX3_temperature_36 (by decide) (fun c_3 => ?_) (fun c_3 => ?_)
    · refine lv_iconst (v := 0) hx hb dX3_temperature_51 (by decide) ?_
      exact J_6 _ (by first | (rw [if_pos c_2, if_pos c_3]) | rfl | (simp only [c_2, c_3, if_true, if_false, ite_true, ite_false, not_false_eq_true, reduceIte]))
    · refine lv_aload_n hx hb dX3_temperature_39 rfl (lv_at hl 1 rfl) ?_
      refine m_get hx hb hts in_X3 hown hE hM 4 k (cw_4 (by omega)) (ci := 3) rfl 2 (by decide) (hts _ q118) (fun _ h9 => h9) rfl dX3_temperature_40 ?_
      refine lv_iload_n hx hb dX3_temperature_43 rfl (lv_at hl 0 rfl) ?_
      refine lv_isub hx hb dX3_temperature_44 ?_
      refine lv_bipush (v := 100) hx hb dX3_temperature_45 (by decide) ?_
      refine lv_idiv hx hb dX3_temperature_47 (by decide) ?_
      refine lv_goto (tgt := 52) hx hb dX3_temperature_48 (by decide) ?_
      exact J_6 _ (by first | (rw [if_pos c_2, if_neg c_3]) | rfl | (simp only [c_2, c_3, if_true, if_false, ite_true, ite_false, not_false_eq_true, reduceIte]))
  · refine lv_aload_n hx hb dX3_temperature_21 rfl (lv_at hl 1 rfl) ?_
    refine m_get hx hb hts in_X3 hown hE hM 4 k (cw_4 (by omega)) (ci := 3) rfl 2 (by decide) (hts _ q118) (fun _ h9 => h9) rfl dX3_temperature_22 ?_
    refine lv_bipush (v := 100) hx hb dX3_temperature_25 (by decide) ?_
    refine lv_idiv hx hb dX3_temperature_27 (by decide) ?_
    refine lv_goto (tgt := 52) hx hb dX3_temperature_28 (by decide) ?_
    exact J_6 _ (by first | (rw [if_neg c_2]) | rfl | (simp only [c_2, if_true, if_false, ite_true, ite_false, not_false_eq_true, reduceIte]))

abbrev rm_X3_isThawed : Room := { frames := 0, cells := 0, slots := 0, locals := 0 }
set_option maxHeartbeats 400000 in
theorem k_X3_isThawed (l : Launch) (g : GG) (A : Nat → Prop) (ad : Nat → Nat → Nat) (Mx : MM) (x : St) (k : Nat) (hk : k < 125) : Met l yX3_isThawed (ws_ yX3_isThawed cX3_isThawed 1 (some .boolean)) rm_X3_isThawed (va_Pc [.ref (ad 4 k)] (mPre g A (cwM g ad Mx x))) (pQi g A (cthF x k) (cwM g ad Mx x)) 0 0 A := by
  refine m_start RX3 rfl (by decide) (Nat.le_of_ble_eq_true rfl) ?_
  intro p e s m args below meth c hcf hr hlk hnm hE hA H locs hM hS ls hl
  have hx := hcf.1
  have hb := hcf.2.1
  have hml := hcf.2.2.1
  have hown := hcf.2.2.2.1
  have hts := hcf.2.2.2.2
  have hl : lv_has ls 1 [(0, .ref (ad 4 k))] := hl
  generalize hQ : MQ below (pQi g A (cthF x k) (cwM g ad Mx x)) args s 0 0 A = Q
  refine lv_aload_n hx hb dX3_isThawed_0 rfl (lv_at hl 0 rfl) ?_
  refine m_get hx hb hts in_X3 hown hE hM 4 k (cw_4 (by omega)) (ci := 3) rfl 2 (by decide) (hts _ q118) (fun _ h9 => h9) rfl dX3_isThawed_1 ?_
  have J_4 : ∀ (v_2 : Int32), ((if (x.1 10 k) < 0 then 0 else 1) = v_2) → W p l e rm_X3_isThawed s m args below meth c H locs 0 0 Q (F0 m 12 ls [.int v_2]) := by
    intro v_2 ev_3
    rw [← hQ]
    exact m_iret () hx hb hr (by subst ev_3; first | rfl | exact cthF_nar _ _) hlk hM hS (by subst ev_3; first | rfl | (unfold cthF; rfl)) (by first | decide | omega) (by first | decide | omega) dX3_isThawed_12
  refine lv_if_lt (tgt := 11) hx hb dX3_isThawed_4 (by decide) (fun c_1 => ?_) (fun c_1 => ?_)
  · refine lv_iconst (v := 0) hx hb dX3_isThawed_11 (by decide) ?_
    exact J_4 _ (by first | (rw [if_pos c_1]) | rfl | (simp only [c_1, if_true, if_false, ite_true, ite_false, not_false_eq_true, reduceIte]))
  · refine lv_iconst (v := 1) hx hb dX3_isThawed_7 (by decide) ?_
    refine lv_goto (tgt := 12) hx hb dX3_isThawed_8 (by decide) ?_
    exact J_4 _ (by first | (rw [if_neg c_1]) | rfl | (simp only [c_1, if_true, if_false, ite_true, ite_false, not_false_eq_true, reduceIte]))

abbrev rm_X3_melted : Room := { frames := 1, cells := 0, slots := 0, locals := 22 }
set_option maxHeartbeats 400000 in
theorem k_X3_melted (l : Launch) (g : GG) (A : Nat → Prop) (ad : Nat → Nat → Nat) (Mx : MM) (x : St) (k : Nat) (hk : k < 125) : Met l yX3_melted (ws_ yX3_melted cX3_melted 1 (some .int)) rm_X3_melted (va_Pc [.ref (ad 4 k)] (mPre g A (cwM g ad Mx x))) (pQi g A (cmel x k) (cwM g ad Mx x)) 0 0 A := by
  refine m_start RX3 rfl (by decide) (Nat.le_of_ble_eq_true rfl) ?_
  intro p e s m args below meth c hcf hr hlk hnm hE hA H locs hM hS ls hl
  have hx := hcf.1
  have hb := hcf.2.1
  have hml := hcf.2.2.1
  have hown := hcf.2.2.2.1
  have hts := hcf.2.2.2.2
  have hl : lv_has ls 1 [(0, .ref (ad 4 k))] := hl
  generalize hQ : MQ below (pQi g A (cmel x k) (cwM g ad Mx x)) args s 0 0 A = Q
  refine lv_iconst (v := 0) hx hb dX3_melted_0 (by decide) ?_
  refine lv_aload_n hx hb dX3_melted_1 rfl (lv_at hl 0 rfl) ?_
  refine m_get hx hb hts in_X3 hown hE hM 4 k (cw_4 (by omega)) (ci := 3) rfl 0 (by decide) (hts _ q113) (fun _ h9 => h9) rfl dX3_melted_2 ?_
  refine lv_aload_n hx hb dX3_melted_5 rfl (lv_at hl 0 rfl) ?_
  refine m_get hx hb hts in_X3 hown hE hM 4 k (cw_4 (by omega)) (ci := 3) rfl 1 (by decide) (hts _ q116) (fun _ h9 => h9) rfl dX3_melted_6 ?_
  refine lv_iadd hx hb dX3_melted_9 ?_
  refine lv_aload_n hx hb dX3_melted_10 rfl (lv_at hl 0 rfl) ?_
  refine m_get hx hb hts in_X3 hown hE hM 4 k (cw_4 (by omega)) (ci := 3) rfl 2 (by decide) (hts _ q118) (fun _ h9 => h9) rfl dX3_melted_11 ?_
  refine lv_sipush (v := 1000) hx hb dX3_melted_14 (by decide) ?_
  refine m_cpi (m_rS (As := [.int (x.1 10 k), .int 1000]) (rest := [.int ((x.1 8 k) + (x.1 9 k)), .int 0]) hcf (k_J11_floorDiv l g A (cwM g ad Mx x) (x.1 10 k) 1000 (by decide)) (va_cwS 2 hts (lw_S q531 q532 q50 q533) rfl rfl rfl (by decide +kernel) ⟨Nat.le_of_ble_eq_true rfl, Nat.le_of_ble_eq_true rfl⟩) hE hA hM hS rfl hl.1 rfl (Nat.le_of_ble_eq_true rfl) dX3_melted_17 ⟨Nat.le_of_ble_eq_true rfl, Nat.le_of_ble_eq_true rfl⟩) hS (fun H locs hM hS => ?_)
  refine m_cpi (m_rS (As := [.int ((x.1 8 k) + (x.1 9 k)), .int (jfd (x.1 10 k) 1000)]) (rest := [.int 0]) hcf (k_J11_min l g A (cwM g ad Mx x) ((x.1 8 k) + (x.1 9 k)) (jfd (x.1 10 k) 1000)) (va_cwS 2 hts (lw_S q534 q497 q50 q498) rfl rfl rfl (by decide +kernel) ⟨Nat.le_of_ble_eq_true rfl, Nat.le_of_ble_eq_true rfl⟩) hE hA hM hS rfl hl.1 rfl (Nat.le_of_ble_eq_true rfl) dX3_melted_20 ⟨Nat.le_of_ble_eq_true rfl, Nat.le_of_ble_eq_true rfl⟩) hS (fun H locs hM hS => ?_)
  refine m_cpi (m_rS (As := [.int 0, .int (jmin ((x.1 8 k) + (x.1 9 k)) (jfd (x.1 10 k) 1000))]) (rest := []) hcf (k_J11_max l g A (cwM g ad Mx x) 0 (jmin ((x.1 8 k) + (x.1 9 k)) (jfd (x.1 10 k) 1000))) (va_cwS 2 hts (lw_S q535 q513 q50 q514) rfl rfl rfl (by decide +kernel) ⟨Nat.le_of_ble_eq_true rfl, Nat.le_of_ble_eq_true rfl⟩) hE hA hM hS rfl hl.1 rfl (Nat.le_of_ble_eq_true rfl) dX3_melted_23 ⟨Nat.le_of_ble_eq_true rfl, Nat.le_of_ble_eq_true rfl⟩) hS (fun H locs hM hS => ?_)
  rw [← hQ]
  exact m_iret () hx hb hr rfl hlk hM hS (by first | rfl | (unfold cmel; rfl)) (by first | decide | omega) (by first | decide | omega) dX3_melted_26

abbrev rm_X3_drip : Room := { frames := 2, cells := 0, slots := 0, locals := 42 }
set_option maxHeartbeats 400000 in
theorem k_X3_drip (l : Launch) (g : GG) (A : Nat → Prop) (ad : Nat → Nat → Nat) (Mx : MM) (x : St) (k : Nat) (hk : k < 125) : Met l yX3_drip (ws_ yX3_drip cX3_drip 2 (some .int)) rm_X3_drip (va_Pc [.ref (ad 4 k)] (mPre g A (cwM g ad Mx x))) (pQi g A (cdrG x k) (cwM g ad Mx (cdrF x k))) 0 0 A := by
  refine m_start RX3 rfl (by decide) (Nat.le_of_ble_eq_true rfl) ?_
  intro p e s m args below meth c hcf hr hlk hnm hE hA H locs hM hS ls hl
  have hx := hcf.1
  have hb := hcf.2.1
  have hml := hcf.2.2.1
  have hown := hcf.2.2.2.1
  have hts := hcf.2.2.2.2
  have hl : lv_has ls 2 [(0, .ref (ad 4 k))] := hl
  generalize hQ : MQ below (pQi g A (cdrG x k) (cwM g ad Mx (cdrF x k))) args s 0 0 A = Q
  refine lv_iconst (v := 0) hx hb dX3_drip_0 (by decide) ?_
  refine lv_aload_n hx hb dX3_drip_1 rfl (lv_at hl 0 rfl) ?_
  refine m_cpi (m_rV (As := []) (rest := [.int 0]) hcf (k_X3_melted l g A ad Mx x k (by omega)) (cwV 0 hts (lw_V q527 q528 q529 q40 q530) rfl rfl rfl (by decide +kernel) ⟨Nat.le_of_ble_eq_true rfl, Nat.le_of_ble_eq_true rfl⟩) hE hA hM hS 4 k (cw_4 (by omega)) (ci := 3) rfl rfl hl.1 rfl (Nat.le_of_ble_eq_true rfl) dX3_drip_2 ⟨Nat.le_of_ble_eq_true rfl, Nat.le_of_ble_eq_true rfl⟩) hS (fun H locs hM hS => ?_)
  refine lv_aload_n hx hb dX3_drip_5 rfl (lv_at hl 0 rfl) ?_
  refine m_get hx hb hts in_X3 hown hE hM 4 k (cw_4 (by omega)) (ci := 3) rfl 0 (by decide) (hts _ q113) (fun _ h9 => h9) rfl dX3_drip_6 ?_
  refine lv_isub hx hb dX3_drip_9 ?_
  refine m_cpi (m_rS (As := [.int 0, .int ((cmel x k) - (x.1 8 k))]) (rest := []) hcf (k_J11_max l g A (cwM g ad Mx x) 0 ((cmel x k) - (x.1 8 k))) (va_cwS 2 hts (lw_S q535 q513 q50 q514) rfl rfl rfl (by decide +kernel) ⟨Nat.le_of_ble_eq_true rfl, Nat.le_of_ble_eq_true rfl⟩) hE hA hM hS rfl hl.1 rfl (Nat.le_of_ble_eq_true rfl) dX3_drip_10 ⟨Nat.le_of_ble_eq_true rfl, Nat.le_of_ble_eq_true rfl⟩) hS (fun H locs hM hS => ?_)
  refine lv_istore_n (lv' := [(1, .int (jmax 0 ((cmel x k) - (x.1 8 k)))), (0, .ref (ad 4 k))]) hx hb dX3_drip_13 rfl hl (by decide) rfl (fun ls hl => ?_)
  refine lv_aload_n hx hb dX3_drip_14 rfl (lv_at hl 1 rfl) ?_
  refine lv_dup hx hb dX3_drip_15 rfl ?_
  refine m_get hx hb hts in_X3 hown hE hM 4 k (cw_4 (by omega)) (ci := 3) rfl 1 (by decide) (hts _ q116) (fun _ h9 => h9) rfl dX3_drip_16 ?_
  refine lv_iload_n hx hb dX3_drip_19 rfl (lv_at hl 0 rfl) ?_
  refine lv_isub hx hb dX3_drip_20 ?_
  refine cl_put hcf hE hM hS k (by omega) 1 (by decide) q116 rfl rfl rfl ((x.1 9 k) - (jmax 0 ((cmel x k) - (x.1 8 k)))) rfl dX3_drip_21 (fun x_6 H locs ex_7 hM hS => ?_)
  refine lv_aload_n hx hb dX3_drip_24 rfl (lv_at hl 1 rfl) ?_
  refine lv_dup hx hb dX3_drip_25 rfl ?_
  refine m_get hx hb hts in_X3 hown hE hM 4 k (cw_4 (by omega)) (ci := 3) rfl 2 (by decide) (hts _ q118) (fun _ h9 => h9) rfl dX3_drip_26 ?_
  refine lv_sipush (v := 1000) hx hb dX3_drip_29 (by decide) ?_
  refine lv_iload_n hx hb dX3_drip_32 rfl (lv_at hl 0 rfl) ?_
  refine lv_imul hx hb dX3_drip_33 ?_
  refine lv_isub hx hb dX3_drip_34 ?_
  refine cl_put hcf hE hM hS k (by omega) 2 (by decide) q118 rfl rfl rfl ((x_6.1 10 k) - (1000 * (jmax 0 ((cmel x k) - (x.1 8 k))))) rfl dX3_drip_35 (fun x_8 H locs ex_9 hM hS => ?_)
  refine lv_iload_n hx hb dX3_drip_38 rfl (lv_at hl 0 rfl) ?_
  rw [← hQ]
  exact m_iret () hx hb hr rfl hlk (by have hF : x_8 = cdrF x k := (by subst ex_9 ex_7; first | rfl); rw [← hF]; exact hM) hS (by subst ex_9 ex_7; first | rfl) (by first | decide | omega) (by first | decide | omega) dX3_drip_39

abbrev rm_X3_wake : Room := { frames := 1, cells := 0, slots := 0, locals := 23 }
set_option maxHeartbeats 400000 in
theorem k_X3_wake (l : Launch) (g : GG) (A : Nat → Prop) (ad : Nat → Nat → Nat) (Mx : MM) (x : St) (k : Nat) (hk : k < 125) : Met l yX3_wake (ws_ yX3_wake cX3_wake 3 (some .int)) rm_X3_wake (va_Pc [.ref (ad 4 k)] (mPre g A (cwM g ad Mx x))) (pQi g A (cwkG x k) (cwM g ad Mx (cwkF x k))) 0 0 A := by
  refine m_start RX3 rfl (by decide) (Nat.le_of_ble_eq_true rfl) ?_
  intro p e s m args below meth c hcf hr hlk hnm hE hA H locs hM hS ls hl
  have hx := hcf.1
  have hb := hcf.2.1
  have hml := hcf.2.2.1
  have hown := hcf.2.2.2.1
  have hts := hcf.2.2.2.2
  have hl : lv_has ls 3 [(0, .ref (ad 4 k))] := hl
  generalize hQ : MQ below (pQi g A (cwkG x k) (cwM g ad Mx (cwkF x k))) args s 0 0 A = Q
  refine lv_aload_n hx hb dX3_wake_0 rfl (lv_at hl 0 rfl) ?_
  refine m_cpi (m_rV (As := []) (rest := []) hcf (k_X3_temperature l g A ad Mx x k (by omega)) (cwV 0 hts (lw_V q570 q508 q509 q40 q510) rfl rfl rfl (by decide +kernel) ⟨Nat.le_of_ble_eq_true rfl, Nat.le_of_ble_eq_true rfl⟩) hE hA hM hS 4 k (cw_4 (by omega)) (ci := 3) rfl rfl hl.1 rfl (Nat.le_of_ble_eq_true rfl) dX3_wake_1 ⟨Nat.le_of_ble_eq_true rfl, Nat.le_of_ble_eq_true rfl⟩) hS (fun H locs hM hS => ?_)
  refine lv_istore_n (lv' := [(1, .int (cdeg x k)), (0, .ref (ad 4 k))]) hx hb dX3_wake_4 rfl hl (by decide) rfl (fun ls hl => ?_)
  refine lv_iload_n hx hb dX3_wake_5 rfl (lv_at hl 0 rfl) ?_
  have J_7 : ∀ (H : Heap) (locs : List Loc) (v_5 : Int32), mW g.1 A (cwM g ad Mx x) H → va_S A s.heap H locs → ((if 0 < (cdeg x k) then ((jminL ((x.1 11 k).toInt64) ((((cdeg x k).toInt64) * ((x.1 11 k).toInt64)) / 1000)).toInt32) else 0) = v_5) → W p l e rm_X3_wake s m args below meth c H locs 0 0 Q (F0 m 34 ls [.int v_5]) := by
    intro H locs v_5 hM hS ev_6
    refine lv_istore_n (lv' := [(2, .int v_5), (1, .int (cdeg x k)), (0, .ref (ad 4 k))]) hx hb dX3_wake_34 rfl hl (by decide) rfl (fun ls hl => ?_)
    refine lv_aload_n hx hb dX3_wake_35 rfl (lv_at hl 2 rfl) ?_
    refine lv_dup hx hb dX3_wake_36 rfl ?_
    refine m_get hx hb hts in_X3 hown hE hM 4 k (cw_4 (by omega)) (ci := 3) rfl 3 (by decide) (hts _ q121) (fun _ h9 => h9) rfl dX3_wake_37 ?_
    refine lv_iload_n hx hb dX3_wake_40 rfl (lv_at hl 0 rfl) ?_
    refine lv_isub hx hb dX3_wake_41 ?_
    refine cl_put hcf hE hM hS k (by omega) 3 (by decide) q121 rfl rfl rfl ((x.1 11 k) - v_5) rfl dX3_wake_42 (fun x_9 H locs ex_10 hM hS => ?_)
    refine lv_iload_n hx hb dX3_wake_45 rfl (lv_at hl 0 rfl) ?_
    rw [← hQ]
    exact m_iret () hx hb hr rfl hlk (by have hF : x_9 = cwkF x k := (by subst ex_10 ev_6; first | rfl); rw [← hF]; exact hM) hS (by subst ex_10 ev_6; first | rfl) (by first | decide | omega) (by first | decide | omega) dX3_wake_46
  refine lv_if_gt (tgt := 13) hx hb dX3_wake_6 (by decide) (fun c_3 => ?_) (fun c_3 => ?_)
  · refine lv_aload_n hx hb dX3_wake_13 rfl (lv_at hl 1 rfl) ?_
    refine m_get hx hb hts in_X3 hown hE hM 4 k (cw_4 (by omega)) (ci := 3) rfl 3 (by decide) (hts _ q121) (fun _ h9 => h9) rfl dX3_wake_14 ?_
    refine lv_i2l hx hb dX3_wake_17 rfl ?_
    refine lv_iload_n hx hb dX3_wake_18 rfl (lv_at hl 0 rfl) ?_
    refine lv_i2l hx hb dX3_wake_19 rfl ?_
    refine lv_aload_n hx hb dX3_wake_20 rfl (lv_at hl 1 rfl) ?_
    refine m_get hx hb hts in_X3 hown hE hM 4 k (cw_4 (by omega)) (ci := 3) rfl 3 (by decide) (hts _ q121) (fun _ h9 => h9) rfl dX3_wake_21 ?_
    refine lv_i2l hx hb dX3_wake_24 rfl ?_
    refine lv_lmul hx hb dX3_wake_25 ?_
    refine lv_ldc2 hx hb hown (hts _ q571) dX3_wake_26 ?_
    refine lv_ldiv hx hb dX3_wake_29 (by decide) ?_
    refine m_cpl (m_rS (As := [.long ((x.1 11 k).toInt64), .long ((((cdeg x k).toInt64) * ((x.1 11 k).toInt64)) / 1000)]) (rest := []) hcf (k_J11_min_2 l g A (cwM g ad Mx x) ((x.1 11 k).toInt64) ((((cdeg x k).toInt64) * ((x.1 11 k).toInt64)) / 1000)) (va_cwS 2 hts (lw_S q572 q573 q50 q574) rfl rfl rfl (by decide +kernel) ⟨Nat.le_of_ble_eq_true rfl, Nat.le_of_ble_eq_true rfl⟩) hE hA hM hS rfl hl.1 rfl (Nat.le_of_ble_eq_true rfl) dX3_wake_30 ⟨Nat.le_of_ble_eq_true rfl, Nat.le_of_ble_eq_true rfl⟩) hS (fun H locs hM hS => ?_)
    refine lv_l2i hx hb dX3_wake_33 rfl ?_
    exact J_7 H locs _ hM hS (by first | (rw [if_pos c_3]) | rfl | (simp only [c_3, if_true, if_false, ite_true, ite_false, not_false_eq_true, reduceIte]))
  · refine lv_iconst (v := 0) hx hb dX3_wake_9 (by decide) ?_
    refine lv_goto (tgt := 34) hx hb dX3_wake_10 (by decide) ?_
    exact J_7 H locs _ hM hS (by first | (rw [if_neg c_3]) | rfl | (simp only [c_3, if_true, if_false, ite_true, ite_false, not_false_eq_true, reduceIte]))

abbrev rm_X2_isLake : Room := { frames := 0, cells := 0, slots := 0, locals := 0 }
set_option maxHeartbeats 400000 in
theorem k_X2_isLake (l : Launch) (g : GG) (A : Nat → Prop) (ad : Nat → Nat → Nat) (Mx : MM) (x : St) (k : Nat) (hk : k < 25) : Met l yX2_isLake (ws_ yX2_isLake cX2_isLake 1 (some .boolean)) rm_X2_isLake (va_Pc [.ref (ad 2 k)] (mPre g A (cwM g ad Mx x))) (pQi g A (clkF x k) (cwM g ad Mx x)) 0 0 A := by
  refine m_start RX2 rfl (by decide) (Nat.le_of_ble_eq_true rfl) ?_
  intro p e s m args below meth c hcf hr hlk hnm hE hA H locs hM hS ls hl
  have hx := hcf.1
  have hb := hcf.2.1
  have hml := hcf.2.2.1
  have hown := hcf.2.2.2.1
  have hts := hcf.2.2.2.2
  have hl : lv_has ls 1 [(0, .ref (ad 2 k))] := hl
  generalize hQ : MQ below (pQi g A (clkF x k) (cwM g ad Mx x)) args s 0 0 A = Q
  refine lv_aload_n hx hb dX2_isLake_0 rfl (lv_at hl 0 rfl) ?_
  refine m_get hx hb hts in_X2 hown hE hM 2 k (cw_2 (by omega)) (ci := 2) rfl 3 (by decide) (hts _ q143) (fun _ h9 => h9) rfl dX2_isLake_1 ?_
  refine lv_iconst (v := 3) hx hb dX2_isLake_4 (by decide) ?_
  have J_4 : ∀ (v_2 : Int32), ((if (x.1 3 k) < 3 then 0 else 1) = v_2) → W p l e rm_X2_isLake s m args below meth c H locs 0 0 Q (F0 m 13 ls [.int v_2]) := by
    intro v_2 ev_3
    rw [← hQ]
    exact m_iret () hx hb hr (by subst ev_3; first | rfl | exact clkF_nar _ _) hlk hM hS (by subst ev_3; first | rfl | (unfold clkF; rfl)) (by first | decide | omega) (by first | decide | omega) dX2_isLake_13
  refine lv_icmp_lt (tgt := 12) hx hb dX2_isLake_5 (by decide) (fun c_1 => ?_) (fun c_1 => ?_)
  · refine lv_iconst (v := 0) hx hb dX2_isLake_12 (by decide) ?_
    exact J_4 _ (by first | (rw [if_pos c_1]) | rfl | (simp only [c_1, if_true, if_false, ite_true, ite_false, not_false_eq_true, reduceIte]))
  · refine lv_iconst (v := 1) hx hb dX2_isLake_8 (by decide) ?_
    refine lv_goto (tgt := 13) hx hb dX2_isLake_9 (by decide) ?_
    exact J_4 _ (by first | (rw [if_neg c_1]) | rfl | (simp only [c_1, if_true, if_false, ite_true, ite_false, not_false_eq_true, reduceIte]))

abbrev rm_X2_level : Room := { frames := 0, cells := 0, slots := 0, locals := 0 }
set_option maxHeartbeats 400000 in
theorem k_X2_level (l : Launch) (g : GG) (A : Nat → Prop) (ad : Nat → Nat → Nat) (Mx : MM) (x : St) (k : Nat) (hk : k < 25) : Met l yX2_level (ws_ yX2_level cX2_level 1 (some .int)) rm_X2_level (va_Pc [.ref (ad 2 k)] (mPre g A (cwM g ad Mx x))) (pQi g A (x.1 2 k + x.1 3 k) (cwM g ad Mx x)) 0 0 A := by
  refine m_start RX2 rfl (by decide) (Nat.le_of_ble_eq_true rfl) ?_
  intro p e s m args below meth c hcf hr hlk hnm hE hA H locs hM hS ls hl
  have hx := hcf.1
  have hb := hcf.2.1
  have hml := hcf.2.2.1
  have hown := hcf.2.2.2.1
  have hts := hcf.2.2.2.2
  have hl : lv_has ls 1 [(0, .ref (ad 2 k))] := hl
  generalize hQ : MQ below (pQi g A (x.1 2 k + x.1 3 k) (cwM g ad Mx x)) args s 0 0 A = Q
  refine lv_aload_n hx hb dX2_level_0 rfl (lv_at hl 0 rfl) ?_
  refine m_get hx hb hts in_X2 hown hE hM 2 k (cw_2 (by omega)) (ci := 2) rfl 2 (by decide) (hts _ q141) (fun _ h9 => h9) rfl dX2_level_1 ?_
  refine lv_aload_n hx hb dX2_level_4 rfl (lv_at hl 0 rfl) ?_
  refine m_get hx hb hts in_X2 hown hE hM 2 k (cw_2 (by omega)) (ci := 2) rfl 3 (by decide) (hts _ q143) (fun _ h9 => h9) rfl dX2_level_5 ?_
  refine lv_iadd hx hb dX2_level_8 ?_
  rw [← hQ]
  exact m_iret () hx hb hr rfl hlk hM hS (by first | rfl) (by first | decide | omega) (by first | decide | omega) dX2_level_9

abbrev rm_X2_temperature : Room := { frames := 1, cells := 0, slots := 0, locals := 21 }
set_option maxHeartbeats 400000 in
theorem k_X2_temperature (l : Launch) (g : GG) (A : Nat → Prop) (ad : Nat → Nat → Nat) (Mx : MM) (x : St) (k : Nat) (hk : k < 25) (n : Nat) (hn : n < 5) : Met l yX2_temperature (ws_ yX2_temperature cX2_temperature 2 (some .int)) rm_X2_temperature (va_Pc [.ref (ad 2 k), .int (nI n)] (mPre g A (cwM g ad Mx x))) (pQi g A (cdeg x (5 * k + n)) (cwM g ad Mx x)) 0 0 A := by
  refine m_start RX2 rfl (by decide) (Nat.le_of_ble_eq_true rfl) ?_
  intro p e s m args below meth c hcf hr hlk hnm hE hA H locs hM hS ls hl
  have hx := hcf.1
  have hb := hcf.2.1
  have hml := hcf.2.2.1
  have hown := hcf.2.2.2.1
  have hts := hcf.2.2.2.2
  have hl : lv_has ls 2 [(0, .ref (ad 2 k)), (1, .int (nI n))] := hl
  generalize hQ : MQ below (pQi g A (cdeg x (5 * k + n)) (cwM g ad Mx x)) args s 0 0 A = Q
  refine lv_aload_n hx hb dX2_temperature_0 rfl (lv_at hl 0 rfl) ?_
  refine m_get hx hb hts in_X2 hown hE hM 2 k (cw_2 (by omega)) (ci := 2) rfl 1 (by decide) (hts _ q138) (fun _ h9 => h9) rfl dX2_temperature_1 ?_
  refine lv_iload_n hx hb dX2_temperature_4 rfl (lv_at hl 1 rfl) ?_
  refine m_aald hx hb hE hM 3 k 4 (cw_3 (by omega)) rfl n (by omega) (by decide) rfl rfl dX2_temperature_5 ?_
  refine m_cpi (m_rV (As := []) (rest := []) hcf (k_X3_temperature l g A ad Mx x (5 * k + n) (by omega)) (cwV 0 hts (lw_V q507 q508 q509 q40 q510) rfl rfl rfl (by decide +kernel) ⟨Nat.le_of_ble_eq_true rfl, Nat.le_of_ble_eq_true rfl⟩) hE hA hM hS 4 (5 * k + n) (cw_4 (by omega)) (ci := 3) rfl rfl hl.1 rfl (Nat.le_of_ble_eq_true rfl) dX2_temperature_6 ⟨Nat.le_of_ble_eq_true rfl, Nat.le_of_ble_eq_true rfl⟩) hS (fun H locs hM hS => ?_)
  rw [← hQ]
  exact m_iret () hx hb hr rfl hlk hM hS (by first | rfl) (by first | decide | omega) (by first | decide | omega) dX2_temperature_9

abbrev rm_X6_heats : Room := { frames := 0, cells := 0, slots := 0, locals := 0 }
set_option maxHeartbeats 400000 in
theorem k_X6_heats (l : Launch) (g : GG) (A : Nat → Prop) (ad : Nat → Nat → Nat) (Mx : MM) (x : St) (h : Nat) (hh : h < nt x 13 0) (air : Int32) : Met l yX6_heats (ws_ yX6_heats cX6_heats 2 (some .int)) rm_X6_heats (va_Pc [.ref (ad 7 h), .int air] (mPre g A (cwM g ad Mx x))) (pQi g A (chtF x h air) (cwM g ad Mx x)) 0 0 A := by
  refine m_start RX6 rfl (by decide) (Nat.le_of_ble_eq_true rfl) ?_
  intro p e s m args below meth c hcf hr hlk hnm hE hA H locs hM hS ls hl
  have hx := hcf.1
  have hb := hcf.2.1
  have hml := hcf.2.2.1
  have hown := hcf.2.2.2.1
  have hts := hcf.2.2.2.2
  have hl : lv_has ls 2 [(0, .ref (ad 7 h)), (1, .int air)] := hl
  generalize hQ : MQ below (pQi g A (chtF x h air) (cwM g ad Mx x)) args s 0 0 A = Q
  refine lv_sipush (v := 300) hx hb dX6_heats_0 (by decide) ?_
  refine lv_aload_n hx hb dX6_heats_3 rfl (lv_at hl 0 rfl) ?_
  refine m_get hx hb hts in_X6 hown hE hM 7 h (cw_7 (by omega)) (ci := 5) rfl 2 (by decide) (hts _ q665) (fun _ h9 => h9) rfl dX6_heats_4 ?_
  have J_5 : ∀ (v_3 : Int32), ((if (x.1 16 h) = 0 then 0 else (if 0 ≤ air then 0 else 300)) = v_3) → W p l e rm_X6_heats s m args below meth c H locs 0 0 Q (F0 m 21 ls [.int v_3, .int 300]) := by
    intro v_3 ev_4
    refine lv_isub hx hb dX6_heats_21 ?_
    rw [← hQ]
    exact m_iret () hx hb hr rfl hlk hM hS (by subst ev_4; first | rfl | (unfold chtF; rfl)) (by first | decide | omega) (by first | decide | omega) dX6_heats_22
  refine lv_if_eq (tgt := 20) hx hb dX6_heats_7 (by decide) (fun c_1 => ?_) (fun c_1 => ?_)
  · refine lv_iconst (v := 0) hx hb dX6_heats_20 (by decide) ?_
    exact J_5 _ (by first | (rw [if_pos c_1]) | rfl | (simp only [c_1, if_true, if_false, ite_true, ite_false, not_false_eq_true, reduceIte]))
  · refine lv_iload_n hx hb dX6_heats_10 rfl (lv_at hl 1 rfl) ?_
    refine lv_if_ge (tgt := 20) hx hb dX6_heats_11 (by decide) (fun c_2 => ?_) (fun c_2 => ?_)
    · refine lv_iconst (v := 0) hx hb dX6_heats_20 (by decide) ?_
      exact J_5 _ (by first | (rw [if_neg c_1, if_pos c_2]) | rfl | (simp only [c_1, c_2, if_true, if_false, ite_true, ite_false, not_false_eq_true, reduceIte]))
    · refine lv_sipush (v := 300) hx hb dX6_heats_14 (by decide) ?_
      refine lv_goto (tgt := 21) hx hb dX6_heats_17 (by decide) ?_
      exact J_5 _ (by first | (rw [if_neg c_1, if_neg c_2]) | rfl | (simp only [c_1, c_2, if_true, if_false, ite_true, ite_false, not_false_eq_true, reduceIte]))

abbrev rm_X2_lead : Room := { frames := 2, cells := 0, slots := 0, locals := 42 }
set_option maxHeartbeats 2000000 in
theorem k_X2_lead (l : Launch) (g : GG) (A : Nat → Prop) (ad : Nat → Nat → Nat) (Mx : MM) (x : St) (k : Nat) (hk : k < 25) (air : Int32) (hok : okM x) (hho : ∀ c, c < 25 → ¬ x.1 52 c = (-1) → nt x 52 c < nt x 13 0) : Met l yX2_lead (ws_ yX2_lead cX2_lead 8 (some .int)) rm_X2_lead (va_Pc [.ref (ad 2 k), .int air] (mPre g A (cwM g ad Mx x))) (pQi g A (ledT x k air + ledO x k air + 10) (cwM g ad Mx (ledF x k air))) 0 0 A := by
  refine m_start RX2 rfl (by decide) (Nat.le_of_ble_eq_true rfl) ?_
  intro p e s m args below meth c hcf hr hlk hnm hE hA H locs hM hS ls hl
  have hx := hcf.1
  have hb := hcf.2.1
  have hml := hcf.2.2.1
  have hown := hcf.2.2.2.1
  have hts := hcf.2.2.2.2
  have hl : lv_has ls 8 [(0, .ref (ad 2 k)), (1, .int air)] := hl
  have hdv := divOK hok hk
  generalize hQ : MQ below (pQi g A (ledT x k air + ledO x k air + 10) (cwM g ad Mx (ledF x k air))) args s 0 0 A = Q
  refine lv_aload_n hx hb dX2_lead_0 rfl (lv_at hl 0 rfl) ?_
  refine lv_iconst (v := 0) hx hb dX2_lead_1 (by decide) ?_
  refine m_cpi (m_rV (As := [.int 0]) (rest := []) hcf (k_X2_temperature l g A ad Mx x k (by omega) 0 (by omega)) (cwV 1 hts (lw_V q503 q504 q505 q39 q506) rfl rfl rfl (by decide +kernel) ⟨Nat.le_of_ble_eq_true rfl, Nat.le_of_ble_eq_true rfl⟩) hE hA hM hS 2 k (cw_2 (by omega)) (ci := 2) rfl rfl hl.1 rfl (Nat.le_of_ble_eq_true rfl) dX2_lead_2 ⟨Nat.le_of_ble_eq_true rfl, Nat.le_of_ble_eq_true rfl⟩) hS (fun H locs hM hS => ?_)
  refine lv_istore_n (lv' := [(2, .int (cdeg x (5 * k + 0))), (0, .ref (ad 2 k)), (1, .int air)]) hx hb dX2_lead_5 rfl hl (by decide) rfl (fun ls hl => ?_)
  refine lv_aload_n hx hb dX2_lead_6 rfl (lv_at hl 1 rfl) ?_
  refine m_cpi (m_rV (As := []) (rest := []) hcf (k_X2_isLake l g A ad Mx x k (by omega)) (cwV 0 hts (lw_V q511 q368 q369 q39 q370) rfl rfl rfl (by decide +kernel) ⟨Nat.le_of_ble_eq_true rfl, Nat.le_of_ble_eq_true rfl⟩) hE hA hM hS 2 k (cw_2 (by omega)) (ci := 2) rfl rfl hl.1 rfl (Nat.le_of_ble_eq_true rfl) dX2_lead_7 ⟨Nat.le_of_ble_eq_true rfl, Nat.le_of_ble_eq_true rfl⟩) hS (fun H locs hM hS => ?_)
  have J_10 : ∀ (H : Heap) (locs : List Loc) (v_8 : Int32), mW g.1 A (cwM g ad Mx x) H → va_S A s.heap H locs → ((if (clkF x k) = 0 then ((60 / ((2 + (x.1 4 k)) + (2 * (x.1 5 k)))) * (air - (cdeg x (5 * k + 0)))) else (30 * ((jmax 0 air) - (cdeg x (5 * k + 0))))) = v_8) → W p l e rm_X2_lead s m args below meth c H locs 0 0 Q (F0 m 46 ls [.int v_8]) := by
    intro H locs v_8 hM hS ev_9
    refine lv_istore_n (lv' := [(3, .int v_8), (2, .int (cdeg x (5 * k + 0))), (0, .ref (ad 2 k)), (1, .int air)]) hx hb dX2_lead_46 rfl hl (by decide) rfl (fun ls hl => ?_)
    refine lv_aload_n hx hb dX2_lead_47 rfl (lv_at hl 2 rfl) ?_
    refine m_get hx hb hts in_X2 hown hE hM 2 k (cw_2 (by omega)) (ci := 2) rfl 7 (by decide) (hts _ q151) (fun _ h9 => h9) rfl dX2_lead_48 ?_
    have J_16 : ∀ (H : Heap) (locs : List Loc) (v_14 : Int32), mW g.1 A (cwM g ad Mx x) H → va_S A s.heap H locs → ((if x.1 52 k = (-1) then 0 else (chtF x (nt x 52 k) air)) = v_14) → W p l e rm_X2_lead s m args below meth c H locs 0 0 Q (F0 m 66 ls [.int v_14]) := by
      intro H locs v_14 hM hS ev_15
      refine lv_istore (lv' := [(4, .int v_14), (3, .int v_8), (2, .int (cdeg x (5 * k + 0))), (0, .ref (ad 2 k)), (1, .int air)]) hx hb dX2_lead_66 hl (by decide) rfl (fun ls hl => ?_)
      refine lv_aload_n hx hb dX2_lead_68 rfl (lv_at hl 3 rfl) ?_
      refine m_get hx hb hts in_X2 hown hE hM 2 k (cw_2 (by omega)) (ci := 2) rfl 1 (by decide) (hts _ q138) (fun _ h9 => h9) rfl dX2_lead_69 ?_
      refine lv_iconst (v := 0) hx hb dX2_lead_72 (by decide) ?_
      refine m_aald hx hb hE hM 3 k 4 (cw_3 (by omega)) rfl 0 (by omega) (by decide) rfl rfl dX2_lead_73 ?_
      refine lv_dup hx hb dX2_lead_74 rfl ?_
      refine m_get hx hb hts in_X3 hown hE hM 4 (5 * k + 0) (cw_4 (by omega)) (ci := 3) rfl 2 (by decide) (hts _ q119) (fun _ h9 => h9) rfl dX2_lead_75 ?_
      refine lv_iload_n hx hb dX2_lead_78 rfl (lv_at hl 1 rfl) ?_
      refine lv_iload hx hb dX2_lead_79 (lv_at hl 0 rfl) ?_
      refine lv_iadd hx hb dX2_lead_81 ?_
      refine lv_iadd hx hb dX2_lead_82 ?_
      refine cl_put hcf hE hM hS (5 * k + 0) (by omega) 2 (by decide) q119 rfl rfl rfl ((x.1 10 (5 * k + 0)) + (v_8 + v_14)) rfl dX2_lead_83 (fun x_18 H locs ex_19 hM hS => ?_)
      refine lv_iconst (v := 1) hx hb dX2_lead_86 (by decide) ?_
      refine lv_istore (lv' := [(5, .int 1), (4, .int v_14), (3, .int v_8), (2, .int (cdeg x (5 * k + 0))), (0, .ref (ad 2 k)), (1, .int air)]) hx hb dX2_lead_87 hl (by decide) rfl (fun ls hl => ?_)
      refine lv_iload hx hb dX2_lead_89 (lv_at hl 0 rfl) ?_
      refine lv_iconst (v := 5) hx hb dX2_lead_91 (by decide) ?_
      refine lv_icmp_ge (tgt := 157) hx hb dX2_lead_92 (by decide) (fun c9 => absurd c9 (by decide)) (fun _ => ?_)
      refine lv_aload_n hx hb dX2_lead_95 rfl (lv_at hl 4 rfl) ?_
      refine lv_iload hx hb dX2_lead_96 (lv_at hl 0 rfl) ?_
      refine m_cpi (m_rV (As := [.int 1]) (rest := []) hcf (k_X2_temperature l g A ad Mx x_18 k (by omega) 1 (by omega)) (cwV 1 hts (lw_V q503 q504 q505 q39 q506) rfl rfl rfl (by decide +kernel) ⟨Nat.le_of_ble_eq_true rfl, Nat.le_of_ble_eq_true rfl⟩) hE hA hM hS 2 k (cw_2 (by omega)) (ci := 2) rfl rfl hl.1 rfl (Nat.le_of_ble_eq_true rfl) dX2_lead_98 ⟨Nat.le_of_ble_eq_true rfl, Nat.le_of_ble_eq_true rfl⟩) hS (fun H locs hM hS => ?_)
      refine lv_istore (lv' := [(6, .int (cdeg x_18 (5 * k + 1))), (5, .int 1), (4, .int v_14), (3, .int v_8), (2, .int (cdeg x (5 * k + 0))), (0, .ref (ad 2 k)), (1, .int air)]) hx hb dX2_lead_101 hl (by decide) rfl (fun ls hl => ?_)
      refine lv_bipush (v := 20) hx hb dX2_lead_103 (by decide) ?_
      refine lv_iload_n hx hb dX2_lead_105 rfl (lv_at hl 4 rfl) ?_
      refine lv_iload hx hb dX2_lead_106 (lv_at hl 0 rfl) ?_
      refine lv_isub hx hb dX2_lead_108 ?_
      refine lv_imul hx hb dX2_lead_109 ?_
      refine lv_istore (lv' := [(7, .int (20 * ((cdeg x (5 * k + 0)) - (cdeg x_18 (5 * k + 1))))), (6, .int (cdeg x_18 (5 * k + 1))), (5, .int 1), (4, .int v_14), (3, .int v_8), (2, .int (cdeg x (5 * k + 0))), (0, .ref (ad 2 k)), (1, .int air)]) hx hb dX2_lead_110 hl (by decide) rfl (fun ls hl => ?_)
      refine lv_iload hx hb dX2_lead_112 (lv_at hl 1 rfl) ?_
      refine lv_istore_n (lv' := [(2, .int (cdeg x_18 (5 * k + 1))), (7, .int (20 * ((cdeg x (5 * k + 0)) - (cdeg x_18 (5 * k + 1))))), (6, .int (cdeg x_18 (5 * k + 1))), (5, .int 1), (4, .int v_14), (3, .int v_8), (0, .ref (ad 2 k)), (1, .int air)]) hx hb dX2_lead_114 rfl hl (by decide) rfl (fun ls hl => ?_)
      refine lv_aload_n hx hb dX2_lead_115 rfl (lv_at hl 6 rfl) ?_
      refine m_get hx hb hts in_X2 hown hE hM 2 k (cw_2 (by omega)) (ci := 2) rfl 1 (by decide) (hts _ q138) (fun _ h9 => h9) rfl dX2_lead_116 ?_
      refine lv_iload hx hb dX2_lead_119 (lv_at hl 3 rfl) ?_
      refine lv_iconst (v := 1) hx hb dX2_lead_121 (by decide) ?_
      refine lv_isub hx hb dX2_lead_122 ?_
      refine m_topI (y := 0) (by decide) ?_
      refine m_aald hx hb hE hM 3 k 4 (cw_3 (by omega)) rfl 0 (by omega) (by decide) rfl rfl dX2_lead_123 ?_
      refine lv_dup hx hb dX2_lead_124 rfl ?_
      refine m_get hx hb hts in_X3 hown hE hM 4 (5 * k + 0) (cw_4 (by omega)) (ci := 3) rfl 2 (by decide) (hts _ q119) (fun _ h9 => h9) rfl dX2_lead_125 ?_
      refine lv_iload hx hb dX2_lead_128 (lv_at hl 1 rfl) ?_
      refine lv_isub hx hb dX2_lead_130 ?_
      refine cl_put hcf hE hM hS (5 * k + 0) (by omega) 2 (by decide) q119 rfl rfl rfl ((x_18.1 10 (5 * k + 0)) - (20 * ((cdeg x (5 * k + 0)) - (cdeg x_18 (5 * k + 1))))) rfl dX2_lead_131 (fun x_25 H locs ex_26 hM hS => ?_)
      refine lv_aload_n hx hb dX2_lead_134 rfl (lv_at hl 6 rfl) ?_
      refine m_get hx hb hts in_X2 hown hE hM 2 k (cw_2 (by omega)) (ci := 2) rfl 1 (by decide) (hts _ q138) (fun _ h9 => h9) rfl dX2_lead_135 ?_
      refine lv_iload hx hb dX2_lead_138 (lv_at hl 3 rfl) ?_
      refine m_aald hx hb hE hM 3 k 4 (cw_3 (by omega)) rfl 1 (by omega) (by decide) rfl rfl dX2_lead_140 ?_
      refine lv_dup hx hb dX2_lead_141 rfl ?_
      refine m_get hx hb hts in_X3 hown hE hM 4 (5 * k + 1) (cw_4 (by omega)) (ci := 3) rfl 2 (by decide) (hts _ q119) (fun _ h9 => h9) rfl dX2_lead_142 ?_
      refine lv_iload hx hb dX2_lead_145 (lv_at hl 1 rfl) ?_
      refine lv_iadd hx hb dX2_lead_147 ?_
      refine cl_put hcf hE hM hS (5 * k + 1) (by omega) 2 (by decide) q119 rfl rfl rfl ((x_25.1 10 (5 * k + 1)) + (20 * ((cdeg x (5 * k + 0)) - (cdeg x_18 (5 * k + 1))))) rfl dX2_lead_148 (fun x_27 H locs ex_28 hM hS => ?_)
      refine lv_iinc (v := 2) (lv' := [(5, .int 2), (2, .int (cdeg x_18 (5 * k + 1))), (7, .int (20 * ((cdeg x (5 * k + 0)) - (cdeg x_18 (5 * k + 1))))), (6, .int (cdeg x_18 (5 * k + 1))), (4, .int v_14), (3, .int v_8), (0, .ref (ad 2 k)), (1, .int air)]) hx hb dX2_lead_151 hl (k := 3) rfl ((by decide)) (by decide) rfl (fun ls hl => ?_)
      refine lv_goto (tgt := 89) hx hb dX2_lead_154 (by decide) ?_
      refine lv_iload hx hb dX2_lead_89 (lv_at hl 0 rfl) ?_
      refine lv_iconst (v := 5) hx hb dX2_lead_91 (by decide) ?_
      refine lv_icmp_ge (tgt := 157) hx hb dX2_lead_92 (by decide) (fun c9 => absurd c9 (by decide)) (fun _ => ?_)
      refine lv_aload_n hx hb dX2_lead_95 rfl (lv_at hl 6 rfl) ?_
      refine lv_iload hx hb dX2_lead_96 (lv_at hl 0 rfl) ?_
      refine m_cpi (m_rV (As := [.int 2]) (rest := []) hcf (k_X2_temperature l g A ad Mx x_27 k (by omega) 2 (by omega)) (cwV 1 hts (lw_V q503 q504 q505 q39 q506) rfl rfl rfl (by decide +kernel) ⟨Nat.le_of_ble_eq_true rfl, Nat.le_of_ble_eq_true rfl⟩) hE hA hM hS 2 k (cw_2 (by omega)) (ci := 2) rfl rfl hl.1 rfl (Nat.le_of_ble_eq_true rfl) dX2_lead_98 ⟨Nat.le_of_ble_eq_true rfl, Nat.le_of_ble_eq_true rfl⟩) hS (fun H locs hM hS => ?_)
      refine lv_istore (lv' := [(6, .int (cdeg x_27 (5 * k + 2))), (5, .int 2), (2, .int (cdeg x_18 (5 * k + 1))), (7, .int (20 * ((cdeg x (5 * k + 0)) - (cdeg x_18 (5 * k + 1))))), (4, .int v_14), (3, .int v_8), (0, .ref (ad 2 k)), (1, .int air)]) hx hb dX2_lead_101 hl (by decide) rfl (fun ls hl => ?_)
      refine lv_bipush (v := 20) hx hb dX2_lead_103 (by decide) ?_
      refine lv_iload_n hx hb dX2_lead_105 rfl (lv_at hl 2 rfl) ?_
      refine lv_iload hx hb dX2_lead_106 (lv_at hl 0 rfl) ?_
      refine lv_isub hx hb dX2_lead_108 ?_
      refine lv_imul hx hb dX2_lead_109 ?_
      refine lv_istore (lv' := [(7, .int (20 * ((cdeg x_18 (5 * k + 1)) - (cdeg x_27 (5 * k + 2))))), (6, .int (cdeg x_27 (5 * k + 2))), (5, .int 2), (2, .int (cdeg x_18 (5 * k + 1))), (4, .int v_14), (3, .int v_8), (0, .ref (ad 2 k)), (1, .int air)]) hx hb dX2_lead_110 hl (by decide) rfl (fun ls hl => ?_)
      refine lv_iload hx hb dX2_lead_112 (lv_at hl 1 rfl) ?_
      refine lv_istore_n (lv' := [(2, .int (cdeg x_27 (5 * k + 2))), (7, .int (20 * ((cdeg x_18 (5 * k + 1)) - (cdeg x_27 (5 * k + 2))))), (6, .int (cdeg x_27 (5 * k + 2))), (5, .int 2), (4, .int v_14), (3, .int v_8), (0, .ref (ad 2 k)), (1, .int air)]) hx hb dX2_lead_114 rfl hl (by decide) rfl (fun ls hl => ?_)
      refine lv_aload_n hx hb dX2_lead_115 rfl (lv_at hl 6 rfl) ?_
      refine m_get hx hb hts in_X2 hown hE hM 2 k (cw_2 (by omega)) (ci := 2) rfl 1 (by decide) (hts _ q138) (fun _ h9 => h9) rfl dX2_lead_116 ?_
      refine lv_iload hx hb dX2_lead_119 (lv_at hl 3 rfl) ?_
      refine lv_iconst (v := 1) hx hb dX2_lead_121 (by decide) ?_
      refine lv_isub hx hb dX2_lead_122 ?_
      refine m_topI (y := 1) (by decide) ?_
      refine m_aald hx hb hE hM 3 k 4 (cw_3 (by omega)) rfl 1 (by omega) (by decide) rfl rfl dX2_lead_123 ?_
      refine lv_dup hx hb dX2_lead_124 rfl ?_
      refine m_get hx hb hts in_X3 hown hE hM 4 (5 * k + 1) (cw_4 (by omega)) (ci := 3) rfl 2 (by decide) (hts _ q119) (fun _ h9 => h9) rfl dX2_lead_125 ?_
      refine lv_iload hx hb dX2_lead_128 (lv_at hl 1 rfl) ?_
      refine lv_isub hx hb dX2_lead_130 ?_
      refine cl_put hcf hE hM hS (5 * k + 1) (by omega) 2 (by decide) q119 rfl rfl rfl ((x_27.1 10 (5 * k + 1)) - (20 * ((cdeg x_18 (5 * k + 1)) - (cdeg x_27 (5 * k + 2))))) rfl dX2_lead_131 (fun x_34 H locs ex_35 hM hS => ?_)
      refine lv_aload_n hx hb dX2_lead_134 rfl (lv_at hl 6 rfl) ?_
      refine m_get hx hb hts in_X2 hown hE hM 2 k (cw_2 (by omega)) (ci := 2) rfl 1 (by decide) (hts _ q138) (fun _ h9 => h9) rfl dX2_lead_135 ?_
      refine lv_iload hx hb dX2_lead_138 (lv_at hl 3 rfl) ?_
      refine m_aald hx hb hE hM 3 k 4 (cw_3 (by omega)) rfl 2 (by omega) (by decide) rfl rfl dX2_lead_140 ?_
      refine lv_dup hx hb dX2_lead_141 rfl ?_
      refine m_get hx hb hts in_X3 hown hE hM 4 (5 * k + 2) (cw_4 (by omega)) (ci := 3) rfl 2 (by decide) (hts _ q119) (fun _ h9 => h9) rfl dX2_lead_142 ?_
      refine lv_iload hx hb dX2_lead_145 (lv_at hl 1 rfl) ?_
      refine lv_iadd hx hb dX2_lead_147 ?_
      refine cl_put hcf hE hM hS (5 * k + 2) (by omega) 2 (by decide) q119 rfl rfl rfl ((x_34.1 10 (5 * k + 2)) + (20 * ((cdeg x_18 (5 * k + 1)) - (cdeg x_27 (5 * k + 2))))) rfl dX2_lead_148 (fun x_36 H locs ex_37 hM hS => ?_)
      refine lv_iinc (v := 3) (lv' := [(5, .int 3), (2, .int (cdeg x_27 (5 * k + 2))), (7, .int (20 * ((cdeg x_18 (5 * k + 1)) - (cdeg x_27 (5 * k + 2))))), (6, .int (cdeg x_27 (5 * k + 2))), (4, .int v_14), (3, .int v_8), (0, .ref (ad 2 k)), (1, .int air)]) hx hb dX2_lead_151 hl (k := 3) rfl ((by decide)) (by decide) rfl (fun ls hl => ?_)
      refine lv_goto (tgt := 89) hx hb dX2_lead_154 (by decide) ?_
      refine lv_iload hx hb dX2_lead_89 (lv_at hl 0 rfl) ?_
      refine lv_iconst (v := 5) hx hb dX2_lead_91 (by decide) ?_
      refine lv_icmp_ge (tgt := 157) hx hb dX2_lead_92 (by decide) (fun c9 => absurd c9 (by decide)) (fun _ => ?_)
      refine lv_aload_n hx hb dX2_lead_95 rfl (lv_at hl 6 rfl) ?_
      refine lv_iload hx hb dX2_lead_96 (lv_at hl 0 rfl) ?_
      refine m_cpi (m_rV (As := [.int 3]) (rest := []) hcf (k_X2_temperature l g A ad Mx x_36 k (by omega) 3 (by omega)) (cwV 1 hts (lw_V q503 q504 q505 q39 q506) rfl rfl rfl (by decide +kernel) ⟨Nat.le_of_ble_eq_true rfl, Nat.le_of_ble_eq_true rfl⟩) hE hA hM hS 2 k (cw_2 (by omega)) (ci := 2) rfl rfl hl.1 rfl (Nat.le_of_ble_eq_true rfl) dX2_lead_98 ⟨Nat.le_of_ble_eq_true rfl, Nat.le_of_ble_eq_true rfl⟩) hS (fun H locs hM hS => ?_)
      refine lv_istore (lv' := [(6, .int (cdeg x_36 (5 * k + 3))), (5, .int 3), (2, .int (cdeg x_27 (5 * k + 2))), (7, .int (20 * ((cdeg x_18 (5 * k + 1)) - (cdeg x_27 (5 * k + 2))))), (4, .int v_14), (3, .int v_8), (0, .ref (ad 2 k)), (1, .int air)]) hx hb dX2_lead_101 hl (by decide) rfl (fun ls hl => ?_)
      refine lv_bipush (v := 20) hx hb dX2_lead_103 (by decide) ?_
      refine lv_iload_n hx hb dX2_lead_105 rfl (lv_at hl 2 rfl) ?_
      refine lv_iload hx hb dX2_lead_106 (lv_at hl 0 rfl) ?_
      refine lv_isub hx hb dX2_lead_108 ?_
      refine lv_imul hx hb dX2_lead_109 ?_
      refine lv_istore (lv' := [(7, .int (20 * ((cdeg x_27 (5 * k + 2)) - (cdeg x_36 (5 * k + 3))))), (6, .int (cdeg x_36 (5 * k + 3))), (5, .int 3), (2, .int (cdeg x_27 (5 * k + 2))), (4, .int v_14), (3, .int v_8), (0, .ref (ad 2 k)), (1, .int air)]) hx hb dX2_lead_110 hl (by decide) rfl (fun ls hl => ?_)
      refine lv_iload hx hb dX2_lead_112 (lv_at hl 1 rfl) ?_
      refine lv_istore_n (lv' := [(2, .int (cdeg x_36 (5 * k + 3))), (7, .int (20 * ((cdeg x_27 (5 * k + 2)) - (cdeg x_36 (5 * k + 3))))), (6, .int (cdeg x_36 (5 * k + 3))), (5, .int 3), (4, .int v_14), (3, .int v_8), (0, .ref (ad 2 k)), (1, .int air)]) hx hb dX2_lead_114 rfl hl (by decide) rfl (fun ls hl => ?_)
      refine lv_aload_n hx hb dX2_lead_115 rfl (lv_at hl 6 rfl) ?_
      refine m_get hx hb hts in_X2 hown hE hM 2 k (cw_2 (by omega)) (ci := 2) rfl 1 (by decide) (hts _ q138) (fun _ h9 => h9) rfl dX2_lead_116 ?_
      refine lv_iload hx hb dX2_lead_119 (lv_at hl 3 rfl) ?_
      refine lv_iconst (v := 1) hx hb dX2_lead_121 (by decide) ?_
      refine lv_isub hx hb dX2_lead_122 ?_
      refine m_topI (y := 2) (by decide) ?_
      refine m_aald hx hb hE hM 3 k 4 (cw_3 (by omega)) rfl 2 (by omega) (by decide) rfl rfl dX2_lead_123 ?_
      refine lv_dup hx hb dX2_lead_124 rfl ?_
      refine m_get hx hb hts in_X3 hown hE hM 4 (5 * k + 2) (cw_4 (by omega)) (ci := 3) rfl 2 (by decide) (hts _ q119) (fun _ h9 => h9) rfl dX2_lead_125 ?_
      refine lv_iload hx hb dX2_lead_128 (lv_at hl 1 rfl) ?_
      refine lv_isub hx hb dX2_lead_130 ?_
      refine cl_put hcf hE hM hS (5 * k + 2) (by omega) 2 (by decide) q119 rfl rfl rfl ((x_36.1 10 (5 * k + 2)) - (20 * ((cdeg x_27 (5 * k + 2)) - (cdeg x_36 (5 * k + 3))))) rfl dX2_lead_131 (fun x_43 H locs ex_44 hM hS => ?_)
      refine lv_aload_n hx hb dX2_lead_134 rfl (lv_at hl 6 rfl) ?_
      refine m_get hx hb hts in_X2 hown hE hM 2 k (cw_2 (by omega)) (ci := 2) rfl 1 (by decide) (hts _ q138) (fun _ h9 => h9) rfl dX2_lead_135 ?_
      refine lv_iload hx hb dX2_lead_138 (lv_at hl 3 rfl) ?_
      refine m_aald hx hb hE hM 3 k 4 (cw_3 (by omega)) rfl 3 (by omega) (by decide) rfl rfl dX2_lead_140 ?_
      refine lv_dup hx hb dX2_lead_141 rfl ?_
      refine m_get hx hb hts in_X3 hown hE hM 4 (5 * k + 3) (cw_4 (by omega)) (ci := 3) rfl 2 (by decide) (hts _ q119) (fun _ h9 => h9) rfl dX2_lead_142 ?_
      refine lv_iload hx hb dX2_lead_145 (lv_at hl 1 rfl) ?_
      refine lv_iadd hx hb dX2_lead_147 ?_
      refine cl_put hcf hE hM hS (5 * k + 3) (by omega) 2 (by decide) q119 rfl rfl rfl ((x_43.1 10 (5 * k + 3)) + (20 * ((cdeg x_27 (5 * k + 2)) - (cdeg x_36 (5 * k + 3))))) rfl dX2_lead_148 (fun x_45 H locs ex_46 hM hS => ?_)
      refine lv_iinc (v := 4) (lv' := [(5, .int 4), (2, .int (cdeg x_36 (5 * k + 3))), (7, .int (20 * ((cdeg x_27 (5 * k + 2)) - (cdeg x_36 (5 * k + 3))))), (6, .int (cdeg x_36 (5 * k + 3))), (4, .int v_14), (3, .int v_8), (0, .ref (ad 2 k)), (1, .int air)]) hx hb dX2_lead_151 hl (k := 3) rfl ((by decide)) (by decide) rfl (fun ls hl => ?_)
      refine lv_goto (tgt := 89) hx hb dX2_lead_154 (by decide) ?_
      refine lv_iload hx hb dX2_lead_89 (lv_at hl 0 rfl) ?_
      refine lv_iconst (v := 5) hx hb dX2_lead_91 (by decide) ?_
      refine lv_icmp_ge (tgt := 157) hx hb dX2_lead_92 (by decide) (fun c9 => absurd c9 (by decide)) (fun _ => ?_)
      refine lv_aload_n hx hb dX2_lead_95 rfl (lv_at hl 6 rfl) ?_
      refine lv_iload hx hb dX2_lead_96 (lv_at hl 0 rfl) ?_
      refine m_cpi (m_rV (As := [.int 4]) (rest := []) hcf (k_X2_temperature l g A ad Mx x_45 k (by omega) 4 (by omega)) (cwV 1 hts (lw_V q503 q504 q505 q39 q506) rfl rfl rfl (by decide +kernel) ⟨Nat.le_of_ble_eq_true rfl, Nat.le_of_ble_eq_true rfl⟩) hE hA hM hS 2 k (cw_2 (by omega)) (ci := 2) rfl rfl hl.1 rfl (Nat.le_of_ble_eq_true rfl) dX2_lead_98 ⟨Nat.le_of_ble_eq_true rfl, Nat.le_of_ble_eq_true rfl⟩) hS (fun H locs hM hS => ?_)
      refine lv_istore (lv' := [(6, .int (cdeg x_45 (5 * k + 4))), (5, .int 4), (2, .int (cdeg x_36 (5 * k + 3))), (7, .int (20 * ((cdeg x_27 (5 * k + 2)) - (cdeg x_36 (5 * k + 3))))), (4, .int v_14), (3, .int v_8), (0, .ref (ad 2 k)), (1, .int air)]) hx hb dX2_lead_101 hl (by decide) rfl (fun ls hl => ?_)
      refine lv_bipush (v := 20) hx hb dX2_lead_103 (by decide) ?_
      refine lv_iload_n hx hb dX2_lead_105 rfl (lv_at hl 2 rfl) ?_
      refine lv_iload hx hb dX2_lead_106 (lv_at hl 0 rfl) ?_
      refine lv_isub hx hb dX2_lead_108 ?_
      refine lv_imul hx hb dX2_lead_109 ?_
      refine lv_istore (lv' := [(7, .int (20 * ((cdeg x_36 (5 * k + 3)) - (cdeg x_45 (5 * k + 4))))), (6, .int (cdeg x_45 (5 * k + 4))), (5, .int 4), (2, .int (cdeg x_36 (5 * k + 3))), (4, .int v_14), (3, .int v_8), (0, .ref (ad 2 k)), (1, .int air)]) hx hb dX2_lead_110 hl (by decide) rfl (fun ls hl => ?_)
      refine lv_iload hx hb dX2_lead_112 (lv_at hl 1 rfl) ?_
      refine lv_istore_n (lv' := [(2, .int (cdeg x_45 (5 * k + 4))), (7, .int (20 * ((cdeg x_36 (5 * k + 3)) - (cdeg x_45 (5 * k + 4))))), (6, .int (cdeg x_45 (5 * k + 4))), (5, .int 4), (4, .int v_14), (3, .int v_8), (0, .ref (ad 2 k)), (1, .int air)]) hx hb dX2_lead_114 rfl hl (by decide) rfl (fun ls hl => ?_)
      refine lv_aload_n hx hb dX2_lead_115 rfl (lv_at hl 6 rfl) ?_
      refine m_get hx hb hts in_X2 hown hE hM 2 k (cw_2 (by omega)) (ci := 2) rfl 1 (by decide) (hts _ q138) (fun _ h9 => h9) rfl dX2_lead_116 ?_
      refine lv_iload hx hb dX2_lead_119 (lv_at hl 3 rfl) ?_
      refine lv_iconst (v := 1) hx hb dX2_lead_121 (by decide) ?_
      refine lv_isub hx hb dX2_lead_122 ?_
      refine m_topI (y := 3) (by decide) ?_
      refine m_aald hx hb hE hM 3 k 4 (cw_3 (by omega)) rfl 3 (by omega) (by decide) rfl rfl dX2_lead_123 ?_
      refine lv_dup hx hb dX2_lead_124 rfl ?_
      refine m_get hx hb hts in_X3 hown hE hM 4 (5 * k + 3) (cw_4 (by omega)) (ci := 3) rfl 2 (by decide) (hts _ q119) (fun _ h9 => h9) rfl dX2_lead_125 ?_
      refine lv_iload hx hb dX2_lead_128 (lv_at hl 1 rfl) ?_
      refine lv_isub hx hb dX2_lead_130 ?_
      refine cl_put hcf hE hM hS (5 * k + 3) (by omega) 2 (by decide) q119 rfl rfl rfl ((x_45.1 10 (5 * k + 3)) - (20 * ((cdeg x_36 (5 * k + 3)) - (cdeg x_45 (5 * k + 4))))) rfl dX2_lead_131 (fun x_52 H locs ex_53 hM hS => ?_)
      refine lv_aload_n hx hb dX2_lead_134 rfl (lv_at hl 6 rfl) ?_
      refine m_get hx hb hts in_X2 hown hE hM 2 k (cw_2 (by omega)) (ci := 2) rfl 1 (by decide) (hts _ q138) (fun _ h9 => h9) rfl dX2_lead_135 ?_
      refine lv_iload hx hb dX2_lead_138 (lv_at hl 3 rfl) ?_
      refine m_aald hx hb hE hM 3 k 4 (cw_3 (by omega)) rfl 4 (by omega) (by decide) rfl rfl dX2_lead_140 ?_
      refine lv_dup hx hb dX2_lead_141 rfl ?_
      refine m_get hx hb hts in_X3 hown hE hM 4 (5 * k + 4) (cw_4 (by omega)) (ci := 3) rfl 2 (by decide) (hts _ q119) (fun _ h9 => h9) rfl dX2_lead_142 ?_
      refine lv_iload hx hb dX2_lead_145 (lv_at hl 1 rfl) ?_
      refine lv_iadd hx hb dX2_lead_147 ?_
      refine cl_put hcf hE hM hS (5 * k + 4) (by omega) 2 (by decide) q119 rfl rfl rfl ((x_52.1 10 (5 * k + 4)) + (20 * ((cdeg x_36 (5 * k + 3)) - (cdeg x_45 (5 * k + 4))))) rfl dX2_lead_148 (fun x_54 H locs ex_55 hM hS => ?_)
      refine lv_iinc (v := 5) (lv' := [(5, .int 5), (2, .int (cdeg x_45 (5 * k + 4))), (7, .int (20 * ((cdeg x_36 (5 * k + 3)) - (cdeg x_45 (5 * k + 4))))), (6, .int (cdeg x_45 (5 * k + 4))), (4, .int v_14), (3, .int v_8), (0, .ref (ad 2 k)), (1, .int air)]) hx hb dX2_lead_151 hl (k := 3) rfl ((by decide)) (by decide) rfl (fun ls hl => ?_)
      refine lv_goto (tgt := 89) hx hb dX2_lead_154 (by decide) ?_
      refine lv_iload hx hb dX2_lead_89 (lv_at hl 0 rfl) ?_
      refine lv_iconst (v := 5) hx hb dX2_lead_91 (by decide) ?_
      refine lv_icmp_ge (tgt := 157) hx hb dX2_lead_92 (by decide) (fun _ => ?_) (fun c9 => absurd (by decide) c9)
      refine lv_aload_n hx hb dX2_lead_157 rfl (lv_at hl 6 rfl) ?_
      refine m_get hx hb hts in_X2 hown hE hM 2 k (cw_2 (by omega)) (ci := 2) rfl 1 (by decide) (hts _ q138) (fun _ h9 => h9) rfl dX2_lead_158 ?_
      refine lv_iconst (v := 4) hx hb dX2_lead_161 (by decide) ?_
      refine m_aald hx hb hE hM 3 k 4 (cw_3 (by omega)) rfl 4 (by omega) (by decide) rfl rfl dX2_lead_162 ?_
      refine lv_dup hx hb dX2_lead_163 rfl ?_
      refine m_get hx hb hts in_X3 hown hE hM 4 (5 * k + 4) (cw_4 (by omega)) (ci := 3) rfl 2 (by decide) (hts _ q119) (fun _ h9 => h9) rfl dX2_lead_164 ?_
      refine lv_bipush (v := 10) hx hb dX2_lead_167 (by decide) ?_
      refine lv_iadd hx hb dX2_lead_169 ?_
      refine cl_put hcf hE hM hS (5 * k + 4) (by omega) 2 (by decide) q119 rfl rfl rfl ((x_54.1 10 (5 * k + 4)) + 10) rfl dX2_lead_170 (fun x_57 H locs ex_58 hM hS => ?_)
      refine lv_iload_n hx hb dX2_lead_173 rfl (lv_at hl 5 rfl) ?_
      refine lv_iload hx hb dX2_lead_174 (lv_at hl 4 rfl) ?_
      refine lv_iadd hx hb dX2_lead_176 ?_
      refine lv_bipush (v := 10) hx hb dX2_lead_177 (by decide) ?_
      refine lv_iadd hx hb dX2_lead_179 ?_
      rw [← hQ]
      exact m_iret () hx hb hr rfl hlk (by have hF : x_57 = ledF x k air := (by subst ex_58 ex_55 ex_53 ex_46 ex_44 ex_37 ex_35 ex_28 ex_26 ex_19 ev_15 ev_9; first | rfl | (unfold ledF; rfl)); rw [← hF]; exact hM) hS (by subst ex_58 ex_55 ex_53 ex_46 ex_44 ex_37 ex_35 ex_28 ex_26 ex_19 ev_15 ev_9; first | rfl | (unfold ledF; rfl)) (by first | decide | omega) (by first | decide | omega) dX2_lead_180
    refine ch_ifnonnull (tgt := 58) hx hb dX2_lead_51 (by decide) (fun c_12 => ?_) (fun c_12 => ?_)
    · refine lv_aload_n hx hb dX2_lead_58 rfl (lv_at hl 2 rfl) ?_
      refine m_get hx hb hts in_X2 hown hE hM 2 k (cw_2 (by omega)) (ci := 2) rfl 7 (by decide) (hts _ q151) (fun _ h9 => h9) rfl dX2_lead_59 ?_
      have hh9 := hho k hk c_12
      refine m_topV (w := .ref (ad 7 (nt x 52 k))) (cHou_some c_12) ?_
      refine lv_iload_n hx hb dX2_lead_62 rfl (lv_at hl 3 rfl) ?_
      refine m_cpi (m_rV (As := [.int air]) (rest := []) hcf (k_X6_heats l g A ad Mx x (nt x 52 k) (by omega) air) (cwV 1 hts (lw_V q515 q516 q517 q58 q518) rfl rfl rfl (by decide +kernel) ⟨Nat.le_of_ble_eq_true rfl, Nat.le_of_ble_eq_true rfl⟩) hE hA hM hS 7 (nt x 52 k) (cw_7 (hho k hk c_12)) (ci := 5) rfl rfl hl.1 rfl (Nat.le_of_ble_eq_true rfl) dX2_lead_63 ⟨Nat.le_of_ble_eq_true rfl, Nat.le_of_ble_eq_true rfl⟩) hS (fun H locs hM hS => ?_)
      exact J_16 H locs _ hM hS (by first | (rw [if_neg c_12]) | rfl | (simp only [c_12, if_true, if_false, ite_true, ite_false, not_false_eq_true, reduceIte]))
    · refine lv_iconst (v := 0) hx hb dX2_lead_54 (by decide) ?_
      refine lv_goto (tgt := 66) hx hb dX2_lead_55 (by decide) ?_
      exact J_16 H locs _ hM hS (by first | (rw [if_pos c_12]) | rfl | (simp only [c_12, if_true, if_false, ite_true, ite_false, not_false_eq_true, reduceIte]))
  refine lv_if_eq (tgt := 26) hx hb dX2_lead_10 (by decide) (fun c_4 => ?_) (fun c_4 => ?_)
  · refine lv_bipush (v := 60) hx hb dX2_lead_26 (by decide) ?_
    refine lv_iconst (v := 2) hx hb dX2_lead_28 (by decide) ?_
    refine lv_aload_n hx hb dX2_lead_29 rfl (lv_at hl 1 rfl) ?_
    refine m_get hx hb hts in_X2 hown hE hM 2 k (cw_2 (by omega)) (ci := 2) rfl 4 (by decide) (hts _ q145) (fun _ h9 => h9) rfl dX2_lead_30 ?_
    refine lv_iadd hx hb dX2_lead_33 ?_
    refine lv_iconst (v := 2) hx hb dX2_lead_34 (by decide) ?_
    refine lv_aload_n hx hb dX2_lead_35 rfl (lv_at hl 1 rfl) ?_
    refine m_get hx hb hts in_X2 hown hE hM 2 k (cw_2 (by omega)) (ci := 2) rfl 5 (by decide) (hts _ q147) (fun _ h9 => h9) rfl dX2_lead_36 ?_
    refine lv_imul hx hb dX2_lead_39 ?_
    refine lv_iadd hx hb dX2_lead_40 ?_
    refine lv_idiv hx hb dX2_lead_41 hdv ?_
    refine lv_iload_n hx hb dX2_lead_42 rfl (lv_at hl 2 rfl) ?_
    refine lv_iload_n hx hb dX2_lead_43 rfl (lv_at hl 0 rfl) ?_
    refine lv_isub hx hb dX2_lead_44 ?_
    refine lv_imul hx hb dX2_lead_45 ?_
    exact J_10 H locs _ hM hS (by first | (rw [if_pos c_4]) | rfl | (simp only [c_4, if_true, if_false, ite_true, ite_false, not_false_eq_true, reduceIte]))
  · refine lv_bipush (v := 30) hx hb dX2_lead_13 (by decide) ?_
    refine lv_iconst (v := 0) hx hb dX2_lead_15 (by decide) ?_
    refine lv_iload_n hx hb dX2_lead_16 rfl (lv_at hl 2 rfl) ?_
    refine m_cpi (m_rS (As := [.int 0, .int air]) (rest := [.int 30]) hcf (k_J11_max l g A (cwM g ad Mx x) 0 air) (va_cwS 2 hts (lw_S q512 q513 q50 q514) rfl rfl rfl (by decide +kernel) ⟨Nat.le_of_ble_eq_true rfl, Nat.le_of_ble_eq_true rfl⟩) hE hA hM hS rfl hl.1 rfl (Nat.le_of_ble_eq_true rfl) dX2_lead_17 ⟨Nat.le_of_ble_eq_true rfl, Nat.le_of_ble_eq_true rfl⟩) hS (fun H locs hM hS => ?_)
    refine lv_iload_n hx hb dX2_lead_20 rfl (lv_at hl 0 rfl) ?_
    refine lv_isub hx hb dX2_lead_21 ?_
    refine lv_imul hx hb dX2_lead_22 ?_
    refine lv_goto (tgt := 46) hx hb dX2_lead_23 (by decide) ?_
    exact J_10 H locs _ hM hS (by first | (rw [if_neg c_4]) | rfl | (simp only [c_4, if_true, if_false, ite_true, ite_false, not_false_eq_true, reduceIte]))

abbrev rm_X2_melt : Room := { frames := 3, cells := 0, slots := 0, locals := 63 }
set_option maxHeartbeats 1000000 in
theorem k_X2_melt (l : Launch) (g : GG) (A : Nat → Prop) (ad : Nat → Nat → Nat) (Mx : MM) (x : St) (k : Nat) (hk : k < 25) : Met l yX2_melt (ws_ yX2_melt cX2_melt 3 none) rm_X2_melt (va_Pc [.ref (ad 2 k)] (mPre g A (cwM g ad Mx x))) (pQv g A (cwM g ad Mx (cmlF x k))) 0 0 A := by
  refine m_start RX2 rfl (by decide) (Nat.le_of_ble_eq_true rfl) ?_
  intro p e s m args below meth c hcf hr hlk hnm hE hA H locs hM hS ls hl
  have hx := hcf.1
  have hb := hcf.2.1
  have hml := hcf.2.2.1
  have hown := hcf.2.2.2.1
  have hts := hcf.2.2.2.2
  have hl : lv_has ls 3 [(0, .ref (ad 2 k))] := hl
  generalize hQ : MQ below (pQv g A (cwM g ad Mx (cmlF x k))) args s 0 0 A = Q
  refine lv_iconst (v := 0) hx hb dX2_melt_0 (by decide) ?_
  refine lv_istore_n (lv' := [(1, .int 0), (0, .ref (ad 2 k))]) hx hb dX2_melt_1 rfl hl (by decide) rfl (fun ls hl => ?_)
  refine lv_iload_n hx hb dX2_melt_2 rfl (lv_at hl 0 rfl) ?_
  refine lv_iconst (v := 5) hx hb dX2_melt_3 (by decide) ?_
  refine lv_icmp_ge (tgt := 43) hx hb dX2_melt_4 (by decide) (fun c9 => absurd c9 (by decide)) (fun _ => ?_)
  refine lv_aload_n hx hb dX2_melt_7 rfl (lv_at hl 1 rfl) ?_
  refine m_get hx hb hts in_X2 hown hE hM 2 k (cw_2 (by omega)) (ci := 2) rfl 1 (by decide) (hts _ q138) (fun _ h9 => h9) rfl dX2_melt_8 ?_
  refine lv_iload_n hx hb dX2_melt_11 rfl (lv_at hl 0 rfl) ?_
  refine m_aald hx hb hE hM 3 k 4 (cw_3 (by omega)) rfl 0 (by omega) (by decide) rfl rfl dX2_melt_12 ?_
  refine m_cpi (m_rV (As := []) (rest := []) hcf (k_X3_drip l g A ad Mx x (5 * k + 0) (by omega)) (cwV 0 hts (lw_V q523 q524 q525 q40 q526) rfl rfl rfl (by decide +kernel) ⟨Nat.le_of_ble_eq_true rfl, Nat.le_of_ble_eq_true rfl⟩) hE hA hM hS 4 (5 * k + 0) (cw_4 (by omega)) (ci := 3) rfl rfl hl.1 rfl (Nat.le_of_ble_eq_true rfl) dX2_melt_13 ⟨Nat.le_of_ble_eq_true rfl, Nat.le_of_ble_eq_true rfl⟩) hS (fun H locs hM hS => ?_)
  obtain ⟨x_2, ex_3⟩ : ∃ z : St, cdrF x (5 * k + 0) = z := ⟨_, rfl⟩
  rw [ex_3] at hM
  refine lv_istore_n (lv' := [(2, .int (cdrG x (5 * k + 0))), (1, .int 0), (0, .ref (ad 2 k))]) hx hb dX2_melt_16 rfl hl (by decide) rfl (fun ls hl => ?_)
  refine lv_aload_n hx hb dX2_melt_17 rfl (lv_at hl 2 rfl) ?_
  refine lv_dup hx hb dX2_melt_18 rfl ?_
  refine m_get hx hb hts in_X2 hown hE hM 2 k (cw_2 (by omega)) (ci := 2) rfl 2 (by decide) (hts _ q141) (fun _ h9 => h9) rfl dX2_melt_19 ?_
  refine lv_iload_n hx hb dX2_melt_22 rfl (lv_at hl 0 rfl) ?_
  refine lv_isub hx hb dX2_melt_23 ?_
  refine cc_put hcf hE hM hS k (by omega) 2 (by decide) (by decide) q141 rfl rfl rfl ((x_2.1 2 k) - (cdrG x (5 * k + 0))) rfl dX2_melt_24 (fun x_6 H locs ex_7 hM hS => ?_)
  refine lv_aload_n hx hb dX2_melt_27 rfl (lv_at hl 2 rfl) ?_
  refine lv_dup hx hb dX2_melt_28 rfl ?_
  refine m_get hx hb hts in_X2 hown hE hM 2 k (cw_2 (by omega)) (ci := 2) rfl 3 (by decide) (hts _ q143) (fun _ h9 => h9) rfl dX2_melt_29 ?_
  refine lv_iload_n hx hb dX2_melt_32 rfl (lv_at hl 0 rfl) ?_
  refine lv_iadd hx hb dX2_melt_33 ?_
  refine cc_put hcf hE hM hS k (by omega) 3 (by decide) (by decide) q143 rfl rfl rfl ((x_6.1 3 k) + (cdrG x (5 * k + 0))) rfl dX2_melt_34 (fun x_8 H locs ex_9 hM hS => ?_)
  refine lv_iinc (v := 1) (lv' := [(1, .int 1), (2, .int (cdrG x (5 * k + 0))), (0, .ref (ad 2 k))]) hx hb dX2_melt_37 hl (k := 1) rfl ((by decide)) (by decide) rfl (fun ls hl => ?_)
  refine lv_goto (tgt := 2) hx hb dX2_melt_40 (by decide) ?_
  refine lv_iload_n hx hb dX2_melt_2 rfl (lv_at hl 0 rfl) ?_
  refine lv_iconst (v := 5) hx hb dX2_melt_3 (by decide) ?_
  refine lv_icmp_ge (tgt := 43) hx hb dX2_melt_4 (by decide) (fun c9 => absurd c9 (by decide)) (fun _ => ?_)
  refine lv_aload_n hx hb dX2_melt_7 rfl (lv_at hl 2 rfl) ?_
  refine m_get hx hb hts in_X2 hown hE hM 2 k (cw_2 (by omega)) (ci := 2) rfl 1 (by decide) (hts _ q138) (fun _ h9 => h9) rfl dX2_melt_8 ?_
  refine lv_iload_n hx hb dX2_melt_11 rfl (lv_at hl 0 rfl) ?_
  refine m_aald hx hb hE hM 3 k 4 (cw_3 (by omega)) rfl 1 (by omega) (by decide) rfl rfl dX2_melt_12 ?_
  refine m_cpi (m_rV (As := []) (rest := []) hcf (k_X3_drip l g A ad Mx x_8 (5 * k + 1) (by omega)) (cwV 0 hts (lw_V q523 q524 q525 q40 q526) rfl rfl rfl (by decide +kernel) ⟨Nat.le_of_ble_eq_true rfl, Nat.le_of_ble_eq_true rfl⟩) hE hA hM hS 4 (5 * k + 1) (cw_4 (by omega)) (ci := 3) rfl rfl hl.1 rfl (Nat.le_of_ble_eq_true rfl) dX2_melt_13 ⟨Nat.le_of_ble_eq_true rfl, Nat.le_of_ble_eq_true rfl⟩) hS (fun H locs hM hS => ?_)
  obtain ⟨x_11, ex_12⟩ : ∃ z : St, cdrF x_8 (5 * k + 1) = z := ⟨_, rfl⟩
  rw [ex_12] at hM
  refine lv_istore_n (lv' := [(2, .int (cdrG x_8 (5 * k + 1))), (1, .int 1), (0, .ref (ad 2 k))]) hx hb dX2_melt_16 rfl hl (by decide) rfl (fun ls hl => ?_)
  refine lv_aload_n hx hb dX2_melt_17 rfl (lv_at hl 2 rfl) ?_
  refine lv_dup hx hb dX2_melt_18 rfl ?_
  refine m_get hx hb hts in_X2 hown hE hM 2 k (cw_2 (by omega)) (ci := 2) rfl 2 (by decide) (hts _ q141) (fun _ h9 => h9) rfl dX2_melt_19 ?_
  refine lv_iload_n hx hb dX2_melt_22 rfl (lv_at hl 0 rfl) ?_
  refine lv_isub hx hb dX2_melt_23 ?_
  refine cc_put hcf hE hM hS k (by omega) 2 (by decide) (by decide) q141 rfl rfl rfl ((x_11.1 2 k) - (cdrG x_8 (5 * k + 1))) rfl dX2_melt_24 (fun x_15 H locs ex_16 hM hS => ?_)
  refine lv_aload_n hx hb dX2_melt_27 rfl (lv_at hl 2 rfl) ?_
  refine lv_dup hx hb dX2_melt_28 rfl ?_
  refine m_get hx hb hts in_X2 hown hE hM 2 k (cw_2 (by omega)) (ci := 2) rfl 3 (by decide) (hts _ q143) (fun _ h9 => h9) rfl dX2_melt_29 ?_
  refine lv_iload_n hx hb dX2_melt_32 rfl (lv_at hl 0 rfl) ?_
  refine lv_iadd hx hb dX2_melt_33 ?_
  refine cc_put hcf hE hM hS k (by omega) 3 (by decide) (by decide) q143 rfl rfl rfl ((x_15.1 3 k) + (cdrG x_8 (5 * k + 1))) rfl dX2_melt_34 (fun x_17 H locs ex_18 hM hS => ?_)
  refine lv_iinc (v := 2) (lv' := [(1, .int 2), (2, .int (cdrG x_8 (5 * k + 1))), (0, .ref (ad 2 k))]) hx hb dX2_melt_37 hl (k := 1) rfl ((by decide)) (by decide) rfl (fun ls hl => ?_)
  refine lv_goto (tgt := 2) hx hb dX2_melt_40 (by decide) ?_
  refine lv_iload_n hx hb dX2_melt_2 rfl (lv_at hl 0 rfl) ?_
  refine lv_iconst (v := 5) hx hb dX2_melt_3 (by decide) ?_
  refine lv_icmp_ge (tgt := 43) hx hb dX2_melt_4 (by decide) (fun c9 => absurd c9 (by decide)) (fun _ => ?_)
  refine lv_aload_n hx hb dX2_melt_7 rfl (lv_at hl 2 rfl) ?_
  refine m_get hx hb hts in_X2 hown hE hM 2 k (cw_2 (by omega)) (ci := 2) rfl 1 (by decide) (hts _ q138) (fun _ h9 => h9) rfl dX2_melt_8 ?_
  refine lv_iload_n hx hb dX2_melt_11 rfl (lv_at hl 0 rfl) ?_
  refine m_aald hx hb hE hM 3 k 4 (cw_3 (by omega)) rfl 2 (by omega) (by decide) rfl rfl dX2_melt_12 ?_
  refine m_cpi (m_rV (As := []) (rest := []) hcf (k_X3_drip l g A ad Mx x_17 (5 * k + 2) (by omega)) (cwV 0 hts (lw_V q523 q524 q525 q40 q526) rfl rfl rfl (by decide +kernel) ⟨Nat.le_of_ble_eq_true rfl, Nat.le_of_ble_eq_true rfl⟩) hE hA hM hS 4 (5 * k + 2) (cw_4 (by omega)) (ci := 3) rfl rfl hl.1 rfl (Nat.le_of_ble_eq_true rfl) dX2_melt_13 ⟨Nat.le_of_ble_eq_true rfl, Nat.le_of_ble_eq_true rfl⟩) hS (fun H locs hM hS => ?_)
  obtain ⟨x_20, ex_21⟩ : ∃ z : St, cdrF x_17 (5 * k + 2) = z := ⟨_, rfl⟩
  rw [ex_21] at hM
  refine lv_istore_n (lv' := [(2, .int (cdrG x_17 (5 * k + 2))), (1, .int 2), (0, .ref (ad 2 k))]) hx hb dX2_melt_16 rfl hl (by decide) rfl (fun ls hl => ?_)
  refine lv_aload_n hx hb dX2_melt_17 rfl (lv_at hl 2 rfl) ?_
  refine lv_dup hx hb dX2_melt_18 rfl ?_
  refine m_get hx hb hts in_X2 hown hE hM 2 k (cw_2 (by omega)) (ci := 2) rfl 2 (by decide) (hts _ q141) (fun _ h9 => h9) rfl dX2_melt_19 ?_
  refine lv_iload_n hx hb dX2_melt_22 rfl (lv_at hl 0 rfl) ?_
  refine lv_isub hx hb dX2_melt_23 ?_
  refine cc_put hcf hE hM hS k (by omega) 2 (by decide) (by decide) q141 rfl rfl rfl ((x_20.1 2 k) - (cdrG x_17 (5 * k + 2))) rfl dX2_melt_24 (fun x_24 H locs ex_25 hM hS => ?_)
  refine lv_aload_n hx hb dX2_melt_27 rfl (lv_at hl 2 rfl) ?_
  refine lv_dup hx hb dX2_melt_28 rfl ?_
  refine m_get hx hb hts in_X2 hown hE hM 2 k (cw_2 (by omega)) (ci := 2) rfl 3 (by decide) (hts _ q143) (fun _ h9 => h9) rfl dX2_melt_29 ?_
  refine lv_iload_n hx hb dX2_melt_32 rfl (lv_at hl 0 rfl) ?_
  refine lv_iadd hx hb dX2_melt_33 ?_
  refine cc_put hcf hE hM hS k (by omega) 3 (by decide) (by decide) q143 rfl rfl rfl ((x_24.1 3 k) + (cdrG x_17 (5 * k + 2))) rfl dX2_melt_34 (fun x_26 H locs ex_27 hM hS => ?_)
  refine lv_iinc (v := 3) (lv' := [(1, .int 3), (2, .int (cdrG x_17 (5 * k + 2))), (0, .ref (ad 2 k))]) hx hb dX2_melt_37 hl (k := 1) rfl ((by decide)) (by decide) rfl (fun ls hl => ?_)
  refine lv_goto (tgt := 2) hx hb dX2_melt_40 (by decide) ?_
  refine lv_iload_n hx hb dX2_melt_2 rfl (lv_at hl 0 rfl) ?_
  refine lv_iconst (v := 5) hx hb dX2_melt_3 (by decide) ?_
  refine lv_icmp_ge (tgt := 43) hx hb dX2_melt_4 (by decide) (fun c9 => absurd c9 (by decide)) (fun _ => ?_)
  refine lv_aload_n hx hb dX2_melt_7 rfl (lv_at hl 2 rfl) ?_
  refine m_get hx hb hts in_X2 hown hE hM 2 k (cw_2 (by omega)) (ci := 2) rfl 1 (by decide) (hts _ q138) (fun _ h9 => h9) rfl dX2_melt_8 ?_
  refine lv_iload_n hx hb dX2_melt_11 rfl (lv_at hl 0 rfl) ?_
  refine m_aald hx hb hE hM 3 k 4 (cw_3 (by omega)) rfl 3 (by omega) (by decide) rfl rfl dX2_melt_12 ?_
  refine m_cpi (m_rV (As := []) (rest := []) hcf (k_X3_drip l g A ad Mx x_26 (5 * k + 3) (by omega)) (cwV 0 hts (lw_V q523 q524 q525 q40 q526) rfl rfl rfl (by decide +kernel) ⟨Nat.le_of_ble_eq_true rfl, Nat.le_of_ble_eq_true rfl⟩) hE hA hM hS 4 (5 * k + 3) (cw_4 (by omega)) (ci := 3) rfl rfl hl.1 rfl (Nat.le_of_ble_eq_true rfl) dX2_melt_13 ⟨Nat.le_of_ble_eq_true rfl, Nat.le_of_ble_eq_true rfl⟩) hS (fun H locs hM hS => ?_)
  obtain ⟨x_29, ex_30⟩ : ∃ z : St, cdrF x_26 (5 * k + 3) = z := ⟨_, rfl⟩
  rw [ex_30] at hM
  refine lv_istore_n (lv' := [(2, .int (cdrG x_26 (5 * k + 3))), (1, .int 3), (0, .ref (ad 2 k))]) hx hb dX2_melt_16 rfl hl (by decide) rfl (fun ls hl => ?_)
  refine lv_aload_n hx hb dX2_melt_17 rfl (lv_at hl 2 rfl) ?_
  refine lv_dup hx hb dX2_melt_18 rfl ?_
  refine m_get hx hb hts in_X2 hown hE hM 2 k (cw_2 (by omega)) (ci := 2) rfl 2 (by decide) (hts _ q141) (fun _ h9 => h9) rfl dX2_melt_19 ?_
  refine lv_iload_n hx hb dX2_melt_22 rfl (lv_at hl 0 rfl) ?_
  refine lv_isub hx hb dX2_melt_23 ?_
  refine cc_put hcf hE hM hS k (by omega) 2 (by decide) (by decide) q141 rfl rfl rfl ((x_29.1 2 k) - (cdrG x_26 (5 * k + 3))) rfl dX2_melt_24 (fun x_33 H locs ex_34 hM hS => ?_)
  refine lv_aload_n hx hb dX2_melt_27 rfl (lv_at hl 2 rfl) ?_
  refine lv_dup hx hb dX2_melt_28 rfl ?_
  refine m_get hx hb hts in_X2 hown hE hM 2 k (cw_2 (by omega)) (ci := 2) rfl 3 (by decide) (hts _ q143) (fun _ h9 => h9) rfl dX2_melt_29 ?_
  refine lv_iload_n hx hb dX2_melt_32 rfl (lv_at hl 0 rfl) ?_
  refine lv_iadd hx hb dX2_melt_33 ?_
  refine cc_put hcf hE hM hS k (by omega) 3 (by decide) (by decide) q143 rfl rfl rfl ((x_33.1 3 k) + (cdrG x_26 (5 * k + 3))) rfl dX2_melt_34 (fun x_35 H locs ex_36 hM hS => ?_)
  refine lv_iinc (v := 4) (lv' := [(1, .int 4), (2, .int (cdrG x_26 (5 * k + 3))), (0, .ref (ad 2 k))]) hx hb dX2_melt_37 hl (k := 1) rfl ((by decide)) (by decide) rfl (fun ls hl => ?_)
  refine lv_goto (tgt := 2) hx hb dX2_melt_40 (by decide) ?_
  refine lv_iload_n hx hb dX2_melt_2 rfl (lv_at hl 0 rfl) ?_
  refine lv_iconst (v := 5) hx hb dX2_melt_3 (by decide) ?_
  refine lv_icmp_ge (tgt := 43) hx hb dX2_melt_4 (by decide) (fun c9 => absurd c9 (by decide)) (fun _ => ?_)
  refine lv_aload_n hx hb dX2_melt_7 rfl (lv_at hl 2 rfl) ?_
  refine m_get hx hb hts in_X2 hown hE hM 2 k (cw_2 (by omega)) (ci := 2) rfl 1 (by decide) (hts _ q138) (fun _ h9 => h9) rfl dX2_melt_8 ?_
  refine lv_iload_n hx hb dX2_melt_11 rfl (lv_at hl 0 rfl) ?_
  refine m_aald hx hb hE hM 3 k 4 (cw_3 (by omega)) rfl 4 (by omega) (by decide) rfl rfl dX2_melt_12 ?_
  refine m_cpi (m_rV (As := []) (rest := []) hcf (k_X3_drip l g A ad Mx x_35 (5 * k + 4) (by omega)) (cwV 0 hts (lw_V q523 q524 q525 q40 q526) rfl rfl rfl (by decide +kernel) ⟨Nat.le_of_ble_eq_true rfl, Nat.le_of_ble_eq_true rfl⟩) hE hA hM hS 4 (5 * k + 4) (cw_4 (by omega)) (ci := 3) rfl rfl hl.1 rfl (Nat.le_of_ble_eq_true rfl) dX2_melt_13 ⟨Nat.le_of_ble_eq_true rfl, Nat.le_of_ble_eq_true rfl⟩) hS (fun H locs hM hS => ?_)
  obtain ⟨x_38, ex_39⟩ : ∃ z : St, cdrF x_35 (5 * k + 4) = z := ⟨_, rfl⟩
  rw [ex_39] at hM
  refine lv_istore_n (lv' := [(2, .int (cdrG x_35 (5 * k + 4))), (1, .int 4), (0, .ref (ad 2 k))]) hx hb dX2_melt_16 rfl hl (by decide) rfl (fun ls hl => ?_)
  refine lv_aload_n hx hb dX2_melt_17 rfl (lv_at hl 2 rfl) ?_
  refine lv_dup hx hb dX2_melt_18 rfl ?_
  refine m_get hx hb hts in_X2 hown hE hM 2 k (cw_2 (by omega)) (ci := 2) rfl 2 (by decide) (hts _ q141) (fun _ h9 => h9) rfl dX2_melt_19 ?_
  refine lv_iload_n hx hb dX2_melt_22 rfl (lv_at hl 0 rfl) ?_
  refine lv_isub hx hb dX2_melt_23 ?_
  refine cc_put hcf hE hM hS k (by omega) 2 (by decide) (by decide) q141 rfl rfl rfl ((x_38.1 2 k) - (cdrG x_35 (5 * k + 4))) rfl dX2_melt_24 (fun x_42 H locs ex_43 hM hS => ?_)
  refine lv_aload_n hx hb dX2_melt_27 rfl (lv_at hl 2 rfl) ?_
  refine lv_dup hx hb dX2_melt_28 rfl ?_
  refine m_get hx hb hts in_X2 hown hE hM 2 k (cw_2 (by omega)) (ci := 2) rfl 3 (by decide) (hts _ q143) (fun _ h9 => h9) rfl dX2_melt_29 ?_
  refine lv_iload_n hx hb dX2_melt_32 rfl (lv_at hl 0 rfl) ?_
  refine lv_iadd hx hb dX2_melt_33 ?_
  refine cc_put hcf hE hM hS k (by omega) 3 (by decide) (by decide) q143 rfl rfl rfl ((x_42.1 3 k) + (cdrG x_35 (5 * k + 4))) rfl dX2_melt_34 (fun x_44 H locs ex_45 hM hS => ?_)
  refine lv_iinc (v := 5) (lv' := [(1, .int 5), (2, .int (cdrG x_35 (5 * k + 4))), (0, .ref (ad 2 k))]) hx hb dX2_melt_37 hl (k := 1) rfl ((by decide)) (by decide) rfl (fun ls hl => ?_)
  refine lv_goto (tgt := 2) hx hb dX2_melt_40 (by decide) ?_
  refine lv_iload_n hx hb dX2_melt_2 rfl (lv_at hl 0 rfl) ?_
  refine lv_iconst (v := 5) hx hb dX2_melt_3 (by decide) ?_
  refine lv_icmp_ge (tgt := 43) hx hb dX2_melt_4 (by decide) (fun _ => ?_) (fun c9 => absurd (by decide) c9)
  rw [← hQ]
  exact m_vret () hx hb hr hlk (by have hF : x_44 = cmlF x k := (by subst ex_45 ex_43 ex_39 ex_36 ex_34 ex_30 ex_27 ex_25 ex_21 ex_18 ex_16 ex_12 ex_9 ex_7 ex_3; first | rfl | (unfold cmlF; rfl)); rw [← hF]; exact hM) hS trivial (by first | decide | omega) (by first | decide | omega) dX2_melt_43

abbrev rm_X2_crack : Room := { frames := 0, cells := 0, slots := 0, locals := 0 }
set_option maxHeartbeats 400000 in
theorem k_X2_crack (l : Launch) (g : GG) (A : Nat → Prop) (ad : Nat → Nat → Nat) (Mx : MM) (x : St) (k : Nat) (hk : k < 25) : Met l yX2_crack (ws_ yX2_crack cX2_crack 2 none) rm_X2_crack (va_Pc [.ref (ad 2 k)] (mPre g A (cwM g ad Mx x))) (pQv g A (cwM g ad Mx (ccrF x k))) 0 0 A := by
  refine m_start RX2 rfl (by decide) (Nat.le_of_ble_eq_true rfl) ?_
  intro p e s m args below meth c hcf hr hlk hnm hE hA H locs hM hS ls hl
  have hx := hcf.1
  have hb := hcf.2.1
  have hml := hcf.2.2.1
  have hown := hcf.2.2.2.1
  have hts := hcf.2.2.2.2
  have hl : lv_has ls 2 [(0, .ref (ad 2 k))] := hl
  generalize hQ : MQ below (pQv g A (cwM g ad Mx (ccrF x k))) args s 0 0 A = Q
  refine lv_aload_n hx hb dX2_crack_0 rfl (lv_at hl 0 rfl) ?_
  refine lv_dup hx hb dX2_crack_1 rfl ?_
  refine m_get hx hb hts in_X2 hown hE hM 2 k (cw_2 (by omega)) (ci := 2) rfl 6 (by decide) (hts _ q149) (fun _ h9 => h9) rfl dX2_crack_2 ?_
  refine lv_iconst (v := 1) hx hb dX2_crack_5 (by decide) ?_
  refine lv_iadd hx hb dX2_crack_6 ?_
  refine cc_put hcf hE hM hS k (by omega) 6 (by decide) (by decide) q149 rfl rfl rfl ((x.1 6 k) + 1) rfl dX2_crack_7 (fun x_1 H locs ex_2 hM hS => ?_)
  refine lv_aload_n hx hb dX2_crack_10 rfl (lv_at hl 0 rfl) ?_
  refine m_get hx hb hts in_X2 hown hE hM 2 k (cw_2 (by omega)) (ci := 2) rfl 1 (by decide) (hts _ q138) (fun _ h9 => h9) rfl dX2_crack_11 ?_
  refine lv_iconst (v := 1) hx hb dX2_crack_14 (by decide) ?_
  refine m_aald hx hb hE hM 3 k 4 (cw_3 (by omega)) rfl 1 (by omega) (by decide) rfl rfl dX2_crack_15 ?_
  refine lv_astore_n (lv' := [(1, .ref (ad 4 (5 * k + 1))), (0, .ref (ad 2 k))]) hx hb dX2_crack_16 rfl hl (by decide) rfl (fun ls hl => ?_)
  refine lv_aload_n hx hb dX2_crack_17 rfl (lv_at hl 1 rfl) ?_
  refine m_get hx hb hts in_X2 hown hE hM 2 k (cw_2 (by omega)) (ci := 2) rfl 3 (by decide) (hts _ q143) (fun _ h9 => h9) rfl dX2_crack_18 ?_
  have J_16 : ∀ (H : Heap) (locs : List Loc) (x_14 : St), mW g.1 A (cwM g ad Mx x_14) H → va_S A s.heap H locs → ((if (x_1.1 3 k) ≤ 0 then x_1 else (if 9 ≤ (x_1.1 9 (5 * k + 1)) then x_1 else (sI (sI (sI (sI x_1 3 k ((x_1.1 3 k) - 1)) 9 (5 * k + 1) (((sI x_1 3 k ((x_1.1 3 k) - 1)).1 9 (5 * k + 1)) + 1)) 10 (5 * k + 1) (((sI (sI x_1 3 k ((x_1.1 3 k) - 1)) 9 (5 * k + 1) (((sI x_1 3 k ((x_1.1 3 k) - 1)).1 9 (5 * k + 1)) + 1)).1 10 (5 * k + 1)) + 1000)) 2 k (((sI (sI (sI x_1 3 k ((x_1.1 3 k) - 1)) 9 (5 * k + 1) (((sI x_1 3 k ((x_1.1 3 k) - 1)).1 9 (5 * k + 1)) + 1)) 10 (5 * k + 1) (((sI (sI x_1 3 k ((x_1.1 3 k) - 1)) 9 (5 * k + 1) (((sI x_1 3 k ((x_1.1 3 k) - 1)).1 9 (5 * k + 1)) + 1)).1 10 (5 * k + 1)) + 1000)).1 2 k) + 1)))) = x_14) → W p l e rm_X2_crack s m args below meth c H locs 0 0 Q (F0 m 75 ls []) := by
    intro H locs x_14 hM hS ex_15
    rw [← hQ]
    exact m_vret () hx hb hr hlk (by have hF : x_14 = ccrF x k := (by subst ex_15 ex_2; first | rfl | (unfold ccrF; rfl)); rw [← hF]; exact hM) hS trivial (by first | decide | omega) (by first | decide | omega) dX2_crack_75
  refine lv_if_le (tgt := 75) hx hb dX2_crack_21 (by decide) (fun c_4 => ?_) (fun c_4 => ?_)
  · skip
    exact J_16 H locs _ hM hS (by first | (rw [if_pos c_4]) | rfl | (simp only [c_4, if_true, if_false, ite_true, ite_false, not_false_eq_true, reduceIte]))
  · refine lv_aload_n hx hb dX2_crack_24 rfl (lv_at hl 0 rfl) ?_
    refine m_get hx hb hts in_X3 hown hE hM 4 (5 * k + 1) (cw_4 (by omega)) (ci := 3) rfl 1 (by decide) (hts _ q115) (fun _ h9 => h9) rfl dX2_crack_25 ?_
    refine lv_bipush (v := 9) hx hb dX2_crack_28 (by decide) ?_
    refine lv_icmp_ge (tgt := 75) hx hb dX2_crack_30 (by decide) (fun c_5 => ?_) (fun c_5 => ?_)
    · skip
      exact J_16 H locs _ hM hS (by first | (rw [if_neg c_4, if_pos c_5]) | rfl | (simp only [c_4, c_5, if_true, if_false, ite_true, ite_false, not_false_eq_true, reduceIte]))
    · refine lv_aload_n hx hb dX2_crack_33 rfl (lv_at hl 1 rfl) ?_
      refine lv_dup hx hb dX2_crack_34 rfl ?_
      refine m_get hx hb hts in_X2 hown hE hM 2 k (cw_2 (by omega)) (ci := 2) rfl 3 (by decide) (hts _ q143) (fun _ h9 => h9) rfl dX2_crack_35 ?_
      refine lv_iconst (v := 1) hx hb dX2_crack_38 (by decide) ?_
      refine lv_isub hx hb dX2_crack_39 ?_
      refine cc_put hcf hE hM hS k (by omega) 3 (by decide) (by decide) q143 rfl rfl rfl ((x_1.1 3 k) - 1) rfl dX2_crack_40 (fun x_6 H locs ex_7 hM hS => ?_)
      refine lv_aload_n hx hb dX2_crack_43 rfl (lv_at hl 0 rfl) ?_
      refine lv_dup hx hb dX2_crack_44 rfl ?_
      refine m_get hx hb hts in_X3 hown hE hM 4 (5 * k + 1) (cw_4 (by omega)) (ci := 3) rfl 1 (by decide) (hts _ q115) (fun _ h9 => h9) rfl dX2_crack_45 ?_
      refine lv_iconst (v := 1) hx hb dX2_crack_48 (by decide) ?_
      refine lv_iadd hx hb dX2_crack_49 ?_
      refine cl_put hcf hE hM hS (5 * k + 1) (by omega) 1 (by decide) q115 rfl rfl rfl ((x_6.1 9 (5 * k + 1)) + 1) rfl dX2_crack_50 (fun x_8 H locs ex_9 hM hS => ?_)
      refine lv_aload_n hx hb dX2_crack_53 rfl (lv_at hl 0 rfl) ?_
      refine lv_dup hx hb dX2_crack_54 rfl ?_
      refine m_get hx hb hts in_X3 hown hE hM 4 (5 * k + 1) (cw_4 (by omega)) (ci := 3) rfl 2 (by decide) (hts _ q119) (fun _ h9 => h9) rfl dX2_crack_55 ?_
      refine lv_sipush (v := 1000) hx hb dX2_crack_58 (by decide) ?_
      refine lv_iadd hx hb dX2_crack_61 ?_
      refine cl_put hcf hE hM hS (5 * k + 1) (by omega) 2 (by decide) q119 rfl rfl rfl ((x_8.1 10 (5 * k + 1)) + 1000) rfl dX2_crack_62 (fun x_10 H locs ex_11 hM hS => ?_)
      refine lv_aload_n hx hb dX2_crack_65 rfl (lv_at hl 1 rfl) ?_
      refine lv_dup hx hb dX2_crack_66 rfl ?_
      refine m_get hx hb hts in_X2 hown hE hM 2 k (cw_2 (by omega)) (ci := 2) rfl 2 (by decide) (hts _ q141) (fun _ h9 => h9) rfl dX2_crack_67 ?_
      refine lv_iconst (v := 1) hx hb dX2_crack_70 (by decide) ?_
      refine lv_iadd hx hb dX2_crack_71 ?_
      refine cc_put hcf hE hM hS k (by omega) 2 (by decide) (by decide) q141 rfl rfl rfl ((x_10.1 2 k) + 1) rfl dX2_crack_72 (fun x_12 H locs ex_13 hM hS => ?_)
      exact J_16 H locs _ hM hS (by subst ex_13; subst ex_11; subst ex_9; subst ex_7; first | (rw [if_neg c_4, if_neg c_5]) | rfl | (simp only [c_4, c_5, if_true, if_false, ite_true, ite_false, not_false_eq_true, reduceIte]))

abbrev rm_X2_live : Room := { frames := 2, cells := 0, slots := 0, locals := 45 }
set_option maxHeartbeats 400000 in
theorem k_X2_live (l : Launch) (g : GG) (A : Nat → Prop) (ad : Nat → Nat → Nat) (Mx : MM) (x : St) (k : Nat) (hk : k < 25) (air : Int32) : Met l yX2_live (ws_ yX2_live cX2_live 4 none) rm_X2_live (va_Pc [.ref (ad 2 k), .int air] (mPre g A (cwM g ad Mx x))) (pQv g A (cwM g ad Mx (cliF x k air))) 0 0 A := by
  refine m_start RX2 rfl (by decide) (Nat.le_of_ble_eq_true rfl) ?_
  intro p e s m args below meth c hcf hr hlk hnm hE hA H locs hM hS ls hl
  have hx := hcf.1
  have hb := hcf.2.1
  have hml := hcf.2.2.1
  have hown := hcf.2.2.2.1
  have hts := hcf.2.2.2.2
  have hl : lv_has ls 4 [(0, .ref (ad 2 k)), (1, .int air)] := hl
  generalize hQ : MQ below (pQv g A (cwM g ad Mx (cliF x k air))) args s 0 0 A = Q
  refine lv_aload_n hx hb dX2_live_0 rfl (lv_at hl 0 rfl) ?_
  refine m_cpi (m_rV (As := []) (rest := []) hcf (k_X2_isLake l g A ad Mx x k (by omega)) (cwV 0 hts (lw_V q511 q368 q369 q39 q370) rfl rfl rfl (by decide +kernel) ⟨Nat.le_of_ble_eq_true rfl, Nat.le_of_ble_eq_true rfl⟩) hE hA hM hS 2 k (cw_2 (by omega)) (ci := 2) rfl rfl hl.1 rfl (Nat.le_of_ble_eq_true rfl) dX2_live_1 ⟨Nat.le_of_ble_eq_true rfl, Nat.le_of_ble_eq_true rfl⟩) hS (fun H locs hM hS => ?_)
  have J_5 : ∀ (j_3 : Nat), ((if (clkF x k) = 0 then 0 else 1) = j_3) → W p l e rm_X2_live s m args below meth c H locs 0 0 Q (F0 m 12 ls [.int (nI j_3)]) := by
    intro j_3 ej_4
    refine lv_istore_n (lv' := [(2, .int (nI j_3)), (0, .ref (ad 2 k)), (1, .int air)]) hx hb dX2_live_12 rfl hl (by decide) rfl (fun ls hl => ?_)
    have hj2 : j_3 < 2 := by rw [← ej_4]; split <;> omega
    refine lv_iconst (v := 0) hx hb dX2_live_13 (by decide) ?_
    refine lv_istore_n (lv' := [(3, .int 0), (2, .int (nI j_3)), (0, .ref (ad 2 k)), (1, .int air)]) hx hb dX2_live_14 rfl hl (by decide) rfl (fun ls hl => ?_)
    have L_8 : ∀ (n9 i_8 : Nat), i_8 + n9 = 5 → ∀ (H : Heap) (locs : List Loc) (ls : Array Slot), mW g.1 A (cwM g ad Mx (cliL j_3 k x i_8)) H → va_S A s.heap H locs → lv_has ls 4 [(0, .ref (ad 2 k)), (1, .int air), (2, .int (nI j_3)), (3, .int (nI i_8))] → W p l e rm_X2_live s m args below meth c H locs 0 0 Q (F0 m 15 ls []) := by
      intro n9
      induction n9 with
      | zero =>
        intro i_8 hi H locs ls hM hS hl 
        have hi : 5 = i_8 := by omega
        subst hi
        obtain ⟨x_10, ex_11⟩ : ∃ z : St, cliL j_3 k x 5 = z := ⟨_, rfl⟩
        rw [ex_11] at hM
        refine lv_iload_n hx hb dX2_live_15 rfl (lv_at hl 3 rfl) ?_
        refine lv_iconst (v := 5) hx hb dX2_live_16 (by decide) ?_
        refine lv_icmp_ge (tgt := 48) hx hb dX2_live_17 (by decide) (fun _ => ?_) (fun c9 => absurd (by decide) c9)
        refine lv_iload_n hx hb dX2_live_48 rfl (lv_at hl 1 rfl) ?_
        have J_21 : ∀ (H : Heap) (locs : List Loc) (x_19 : St), mW g.1 A (cwM g ad Mx x_19) H → va_S A s.heap H locs → ((if air ≤ 0 then x_10 else (if (clkF x_10 k) = 0 then (sI (sL x_10 30 ((x_10.2 30) - ((x_10.1 5 k).toInt64))) 11 (5 * k + 0) (((sL x_10 30 ((x_10.2 30) - ((x_10.1 5 k).toInt64))).1 11 (5 * k + 0)) + ((sL x_10 30 ((x_10.2 30) - ((x_10.1 5 k).toInt64))).1 5 k))) else x_10)) = x_19) → W p l e rm_X2_live s m args below meth c H locs 0 0 Q (F0 m 94 ls []) := by
          intro H locs x_19 hM hS ex_20
          rw [← hQ]
          exact m_vret () hx hb hr hlk (by have hF : x_19 = cliF x k air := (by subst ex_20 ex_11 ej_4; first | rfl | (unfold cliF; rfl) | (unfold cliE; rfl) | (unfold cliF cliE; rfl)); rw [← hF]; exact hM) hS trivial (by first | decide | omega) (by first | decide | omega) dX2_live_94
        refine lv_if_le (tgt := 94) hx hb dX2_live_49 (by decide) (fun c_12 => ?_) (fun c_12 => ?_)
        · skip
          exact J_21 H locs _ hM hS (by first | (rw [if_pos c_12]) | rfl | (simp only [c_12, if_true, if_false, ite_true, ite_false, not_false_eq_true, reduceIte]))
        · refine lv_aload_n hx hb dX2_live_52 rfl (lv_at hl 0 rfl) ?_
          refine m_cpi (m_rV (As := []) (rest := []) hcf (k_X2_isLake l g A ad Mx x_10 k (by omega)) (cwV 0 hts (lw_V q511 q368 q369 q39 q370) rfl rfl rfl (by decide +kernel) ⟨Nat.le_of_ble_eq_true rfl, Nat.le_of_ble_eq_true rfl⟩) hE hA hM hS 2 k (cw_2 (by omega)) (ci := 2) rfl rfl hl.1 rfl (Nat.le_of_ble_eq_true rfl) dX2_live_53 ⟨Nat.le_of_ble_eq_true rfl, Nat.le_of_ble_eq_true rfl⟩) hS (fun H locs hM hS => ?_)
          refine lv_if_ne (tgt := 94) hx hb dX2_live_56 (by decide) (fun c_14 => ?_) (fun c_14 => ?_)
          · skip
            exact J_21 H locs _ hM hS (by first | (rw [if_neg c_12, if_neg c_14]) | rfl | (simp only [c_12, c_14, if_true, if_false, ite_true, ite_false, not_false_eq_true, reduceIte]))
          · refine lv_aload_n hx hb dX2_live_59 rfl (lv_at hl 0 rfl) ?_
            refine m_get hx hb hts in_X2 hown hE hM 2 k (cw_2 (by omega)) (ci := 2) rfl 8 (by decide) (hts _ q153) (fun _ h9 => h9) rfl dX2_live_60 ?_
            refine m_getN hx hb hts in_X1 hown hE hM 0 0 cw_0 (ci := 0) rfl 4 (by decide) (va_Nw.use rfl (hE.nw 2 rfl)) (fun _ h9 => h9) rfl dX2_live_63 ?_
            refine lv_iconst (v := 0) hx hb dX2_live_66 (by decide) ?_
            refine lv_dup2_11 hx hb dX2_live_67 rfl rfl ?_
            refine cg_ld hcf hE hM 0 (by omega) rfl dX2_live_68 ?_
            refine lv_aload_n hx hb dX2_live_69 rfl (lv_at hl 0 rfl) ?_
            refine m_get hx hb hts in_X2 hown hE hM 2 k (cw_2 (by omega)) (ci := 2) rfl 5 (by decide) (hts _ q147) (fun _ h9 => h9) rfl dX2_live_70 ?_
            refine lv_i2l hx hb dX2_live_73 rfl ?_
            refine lv_lsub hx hb dX2_live_74 ?_
            refine cg_st hcf hE hM hS 0 (by omega) rfl dX2_live_75 (fun x_15 H locs ex_16 hM hS => ?_)
            refine lv_aload_n hx hb dX2_live_76 rfl (lv_at hl 0 rfl) ?_
            refine m_get hx hb hts in_X2 hown hE hM 2 k (cw_2 (by omega)) (ci := 2) rfl 1 (by decide) (hts _ q138) (fun _ h9 => h9) rfl dX2_live_77 ?_
            refine lv_iconst (v := 0) hx hb dX2_live_80 (by decide) ?_
            refine m_aald hx hb hE hM 3 k 4 (cw_3 (by omega)) rfl 0 (by omega) (by decide) rfl rfl dX2_live_81 ?_
            refine lv_dup hx hb dX2_live_82 rfl ?_
            refine m_get hx hb hts in_X3 hown hE hM 4 (5 * k + 0) (cw_4 (by omega)) (ci := 3) rfl 3 (by decide) (hts _ q123) (fun _ h9 => h9) rfl dX2_live_83 ?_
            refine lv_aload_n hx hb dX2_live_86 rfl (lv_at hl 0 rfl) ?_
            refine m_get hx hb hts in_X2 hown hE hM 2 k (cw_2 (by omega)) (ci := 2) rfl 5 (by decide) (hts _ q147) (fun _ h9 => h9) rfl dX2_live_87 ?_
            refine lv_iadd hx hb dX2_live_90 ?_
            refine cl_put hcf hE hM hS (5 * k + 0) (by omega) 3 (by decide) q123 rfl rfl rfl ((x_15.1 11 (5 * k + 0)) + (x_15.1 5 k)) rfl dX2_live_91 (fun x_17 H locs ex_18 hM hS => ?_)
            exact J_21 H locs _ hM hS (by subst ex_18; subst ex_16; first | (rw [if_neg c_12, if_pos c_14]) | rfl | (simp only [c_12, c_14, if_true, if_false, ite_true, ite_false, not_false_eq_true, reduceIte]))
      | succ n9 ih =>
        intro i_8 hi H locs ls hM hS hl 
        have hlt_i_8 : i_8 < 5 := by omega
        obtain ⟨x_23, ex_24⟩ : ∃ z : St, cliL j_3 k x i_8 = z := ⟨_, rfl⟩
        rw [ex_24] at hM
        refine lv_iload_n hx hb dX2_live_15 rfl (lv_at hl 3 rfl) ?_
        refine lv_iconst (v := 5) hx hb dX2_live_16 (by decide) ?_
        refine lv_icmp_ge (tgt := 48) hx hb dX2_live_17 (by decide) (fun c9 => absurd c9 (nI_ge (a := i_8) (b := 5) (by omega) (by decide))) (fun _ => ?_)
        refine lv_aload_n hx hb dX2_live_20 rfl (lv_at hl 0 rfl) ?_
        refine m_get hx hb hts in_X2 hown hE hM 2 k (cw_2 (by omega)) (ci := 2) rfl 8 (by decide) (hts _ q153) (fun _ h9 => h9) rfl dX2_live_21 ?_
        refine m_getN hx hb hts in_X1 hown hE hM 0 0 cw_0 (ci := 0) rfl 4 (by decide) (va_Nw.use rfl (hE.nw 2 rfl)) (fun _ h9 => h9) rfl dX2_live_24 ?_
        refine lv_iload_n hx hb dX2_live_27 rfl (lv_at hl 2 rfl) ?_
        refine lv_dup2_11 hx hb dX2_live_28 rfl rfl ?_
        refine cg_ld hcf hE hM j_3 (by omega) rfl dX2_live_29 ?_
        refine lv_aload_n hx hb dX2_live_30 rfl (lv_at hl 0 rfl) ?_
        refine m_get hx hb hts in_X2 hown hE hM 2 k (cw_2 (by omega)) (ci := 2) rfl 1 (by decide) (hts _ q138) (fun _ h9 => h9) rfl dX2_live_31 ?_
        refine lv_iload_n hx hb dX2_live_34 rfl (lv_at hl 3 rfl) ?_
        refine m_aald hx hb hE hM 3 k 4 (cw_3 (by omega)) rfl i_8 (by omega) (by decide) rfl rfl dX2_live_35 ?_
        refine m_cpi (m_rV (As := []) (rest := [.long (x_23.2 (30 + j_3)), .int (nI j_3), .ref (ad 11 0)]) hcf (k_X3_wake l g A ad Mx x_23 (5 * k + i_8) (by omega)) (cwV 0 hts (lw_V q566 q567 q568 q40 q569) rfl rfl rfl (by decide +kernel) ⟨Nat.le_of_ble_eq_true rfl, Nat.le_of_ble_eq_true rfl⟩) hE hA hM hS 4 (5 * k + i_8) (cw_4 (by omega)) (ci := 3) rfl rfl hl.1 rfl (Nat.le_of_ble_eq_true rfl) dX2_live_36 ⟨Nat.le_of_ble_eq_true rfl, Nat.le_of_ble_eq_true rfl⟩) hS (fun H locs hM hS => ?_)
        obtain ⟨x_25, ex_26⟩ : ∃ z : St, cwkF x_23 (5 * k + i_8) = z := ⟨_, rfl⟩
        rw [ex_26] at hM
        refine lv_i2l hx hb dX2_live_39 rfl ?_
        refine lv_ladd hx hb dX2_live_40 ?_
        refine cg_st hcf hE hM hS j_3 (by omega) rfl dX2_live_41 (fun x_28 H locs ex_29 hM hS => ?_)
        refine lv_iinc (v := nI (i_8 + 1)) (lv' := [(3, .int (nI (i_8 + 1))), (0, .ref (ad 2 k)), (1, .int air), (2, .int (nI j_3))]) hx hb dX2_live_42 hl (k := 3) rfl (nI_add i_8 1) (by decide) rfl (fun ls hl => ?_)
        refine lv_goto (tgt := 15) hx hb dX2_live_45 (by decide) ?_
        exact ih (i_8 + 1) (by omega) H locs ls (by have hF : x_28 = cliL j_3 k x (i_8 + 1) := (by subst ex_29 ex_26 ex_24; exact (cliL_s _ _ _ _).symm); rw [← hF]; exact hM) hS (lv_sub hl [1, 2, 3, 0] (by subst ex_29 ex_26 ex_24; rfl))
    exact L_8 (5) 0 (by omega) H locs ls hM hS (lv_sub hl [2, 3, 1, 0] rfl)
  refine lv_if_eq (tgt := 11) hx hb dX2_live_4 (by decide) (fun c_2 => ?_) (fun c_2 => ?_)
  · refine lv_iconst (v := 0) hx hb dX2_live_11 (by decide) ?_
    exact J_5 _ (by first | (rw [if_pos c_2]) | rfl | (simp only [c_2, if_true, if_false, ite_true, ite_false, not_false_eq_true, reduceIte]))
  · refine lv_iconst (v := 1) hx hb dX2_live_7 (by decide) ?_
    refine lv_goto (tgt := 12) hx hb dX2_live_8 (by decide) ?_
    exact J_5 _ (by first | (rw [if_neg c_2]) | rfl | (simp only [c_2, if_true, if_false, ite_true, ite_false, not_false_eq_true, reduceIte]))

abbrev rm_X2_thawed : Room := { frames := 1, cells := 0, slots := 0, locals := 20 }
set_option maxHeartbeats 400000 in
theorem k_X2_thawed (l : Launch) (g : GG) (A : Nat → Prop) (ad : Nat → Nat → Nat) (Mx : MM) (x : St) (k : Nat) (hk : k < 25) : Met l yX2_thawed (ws_ yX2_thawed cX2_thawed 2 (some .int)) rm_X2_thawed (va_Pc [.ref (ad 2 k)] (mPre g A (cwM g ad Mx x))) (pQi g A (ctaF x k) (cwM g ad Mx x)) 0 0 A := by
  refine m_start RX2 rfl (by decide) (Nat.le_of_ble_eq_true rfl) ?_
  intro p e s m args below meth c hcf hr hlk hnm hE hA H locs hM hS ls hl
  have hx := hcf.1
  have hb := hcf.2.1
  have hml := hcf.2.2.1
  have hown := hcf.2.2.2.1
  have hts := hcf.2.2.2.2
  have hl : lv_has ls 2 [(0, .ref (ad 2 k))] := hl
  generalize hQ : MQ below (pQi g A (ctaF x k) (cwM g ad Mx x)) args s 0 0 A = Q
  refine lv_iconst (v := 0) hx hb dX2_thawed_0 (by decide) ?_
  refine lv_istore_n (lv' := [(1, .int 0), (0, .ref (ad 2 k))]) hx hb dX2_thawed_1 rfl hl (by decide) rfl (fun ls hl => ?_)
  refine lv_iload_n hx hb dX2_thawed_2 rfl (lv_at hl 0 rfl) ?_
  refine lv_iconst (v := 5) hx hb dX2_thawed_3 (by decide) ?_
  refine lv_icmp_ge (tgt := 25) hx hb dX2_thawed_4 (by decide) (fun c9 => absurd c9 (by decide)) (fun _ => ?_)
  refine lv_aload_n hx hb dX2_thawed_7 rfl (lv_at hl 1 rfl) ?_
  refine m_get hx hb hts in_X2 hown hE hM 2 k (cw_2 (by omega)) (ci := 2) rfl 1 (by decide) (hts _ q138) (fun _ h9 => h9) rfl dX2_thawed_8 ?_
  refine lv_iload_n hx hb dX2_thawed_11 rfl (lv_at hl 0 rfl) ?_
  refine m_aald hx hb hE hM 3 k 4 (cw_3 (by omega)) rfl 0 (by omega) (by decide) rfl rfl dX2_thawed_12 ?_
  refine m_cpi (m_rV (As := []) (rest := []) hcf (k_X3_isThawed l g A ad Mx x (5 * k + 0) (by omega)) (cwV 0 hts (lw_V q863 q621 q622 q40 q623) rfl rfl rfl (by decide +kernel) ⟨Nat.le_of_ble_eq_true rfl, Nat.le_of_ble_eq_true rfl⟩) hE hA hM hS 4 (5 * k + 0) (cw_4 (by omega)) (ci := 3) rfl rfl hl.1 rfl (Nat.le_of_ble_eq_true rfl) dX2_thawed_13 ⟨Nat.le_of_ble_eq_true rfl, Nat.le_of_ble_eq_true rfl⟩) hS (fun H locs hM hS => ?_)
  have J_20 : ∀ (H : Heap) (locs : List Loc) (ls : Array Slot) (v_17 : Int32), mW g.1 A (cwM g ad Mx x) H → va_S A s.heap H locs → lv_has ls 2 [(0, .ref (ad 2 k)), (1, .int v_17)] → ((if (cthF x (5 * k + 0)) = 0 then 0 else (if (cthF x (5 * k + 1)) = 0 then 1 else (if (cthF x (5 * k + 2)) = 0 then 2 else (if (cthF x (5 * k + 3)) = 0 then 3 else (if (cthF x (5 * k + 4)) = 0 then 4 else 5))))) = v_17) → W p l e rm_X2_thawed s m args below meth c H locs 0 0 Q (F0 m 25 ls []) := by
    intro H locs ls v_17 hM hS hl ev_18
    refine lv_iload_n hx hb dX2_thawed_25 rfl (lv_at hl 1 rfl) ?_
    rw [← hQ]
    exact m_iret () hx hb hr rfl hlk hM hS (by subst ev_18; first | rfl | (unfold ctaF; rfl)) (by first | decide | omega) (by first | decide | omega) dX2_thawed_26
  refine lv_if_eq (tgt := 25) hx hb dX2_thawed_16 (by decide) (fun c_3 => ?_) (fun c_3 => ?_)
  · skip
    exact J_20 H locs ls _ hM hS (lv_sub hl [1, 0] rfl) (by first | (rw [if_pos c_3]) | rfl | (simp only [c_3, if_true, if_false, ite_true, ite_false, not_false_eq_true, reduceIte]))
  · refine lv_iinc (v := 1) (lv' := [(1, .int 1), (0, .ref (ad 2 k))]) hx hb dX2_thawed_19 hl (k := 0) rfl ((by decide)) (by decide) rfl (fun ls hl => ?_)
    refine lv_goto (tgt := 2) hx hb dX2_thawed_22 (by decide) ?_
    refine lv_iload_n hx hb dX2_thawed_2 rfl (lv_at hl 0 rfl) ?_
    refine lv_iconst (v := 5) hx hb dX2_thawed_3 (by decide) ?_
    refine lv_icmp_ge (tgt := 25) hx hb dX2_thawed_4 (by decide) (fun c9 => absurd c9 (by decide)) (fun _ => ?_)
    refine lv_aload_n hx hb dX2_thawed_7 rfl (lv_at hl 1 rfl) ?_
    refine m_get hx hb hts in_X2 hown hE hM 2 k (cw_2 (by omega)) (ci := 2) rfl 1 (by decide) (hts _ q138) (fun _ h9 => h9) rfl dX2_thawed_8 ?_
    refine lv_iload_n hx hb dX2_thawed_11 rfl (lv_at hl 0 rfl) ?_
    refine m_aald hx hb hE hM 3 k 4 (cw_3 (by omega)) rfl 1 (by omega) (by decide) rfl rfl dX2_thawed_12 ?_
    refine m_cpi (m_rV (As := []) (rest := []) hcf (k_X3_isThawed l g A ad Mx x (5 * k + 1) (by omega)) (cwV 0 hts (lw_V q863 q621 q622 q40 q623) rfl rfl rfl (by decide +kernel) ⟨Nat.le_of_ble_eq_true rfl, Nat.le_of_ble_eq_true rfl⟩) hE hA hM hS 4 (5 * k + 1) (cw_4 (by omega)) (ci := 3) rfl rfl hl.1 rfl (Nat.le_of_ble_eq_true rfl) dX2_thawed_13 ⟨Nat.le_of_ble_eq_true rfl, Nat.le_of_ble_eq_true rfl⟩) hS (fun H locs hM hS => ?_)
    refine lv_if_eq (tgt := 25) hx hb dX2_thawed_16 (by decide) (fun c_6 => ?_) (fun c_6 => ?_)
    · skip
      exact J_20 H locs ls _ hM hS (lv_sub hl [1, 0] rfl) (by first | (rw [if_neg c_3, if_pos c_6]) | rfl | (simp only [c_3, c_6, if_true, if_false, ite_true, ite_false, not_false_eq_true, reduceIte]))
    · refine lv_iinc (v := 2) (lv' := [(1, .int 2), (0, .ref (ad 2 k))]) hx hb dX2_thawed_19 hl (k := 0) rfl ((by decide)) (by decide) rfl (fun ls hl => ?_)
      refine lv_goto (tgt := 2) hx hb dX2_thawed_22 (by decide) ?_
      refine lv_iload_n hx hb dX2_thawed_2 rfl (lv_at hl 0 rfl) ?_
      refine lv_iconst (v := 5) hx hb dX2_thawed_3 (by decide) ?_
      refine lv_icmp_ge (tgt := 25) hx hb dX2_thawed_4 (by decide) (fun c9 => absurd c9 (by decide)) (fun _ => ?_)
      refine lv_aload_n hx hb dX2_thawed_7 rfl (lv_at hl 1 rfl) ?_
      refine m_get hx hb hts in_X2 hown hE hM 2 k (cw_2 (by omega)) (ci := 2) rfl 1 (by decide) (hts _ q138) (fun _ h9 => h9) rfl dX2_thawed_8 ?_
      refine lv_iload_n hx hb dX2_thawed_11 rfl (lv_at hl 0 rfl) ?_
      refine m_aald hx hb hE hM 3 k 4 (cw_3 (by omega)) rfl 2 (by omega) (by decide) rfl rfl dX2_thawed_12 ?_
      refine m_cpi (m_rV (As := []) (rest := []) hcf (k_X3_isThawed l g A ad Mx x (5 * k + 2) (by omega)) (cwV 0 hts (lw_V q863 q621 q622 q40 q623) rfl rfl rfl (by decide +kernel) ⟨Nat.le_of_ble_eq_true rfl, Nat.le_of_ble_eq_true rfl⟩) hE hA hM hS 4 (5 * k + 2) (cw_4 (by omega)) (ci := 3) rfl rfl hl.1 rfl (Nat.le_of_ble_eq_true rfl) dX2_thawed_13 ⟨Nat.le_of_ble_eq_true rfl, Nat.le_of_ble_eq_true rfl⟩) hS (fun H locs hM hS => ?_)
      refine lv_if_eq (tgt := 25) hx hb dX2_thawed_16 (by decide) (fun c_9 => ?_) (fun c_9 => ?_)
      · skip
        exact J_20 H locs ls _ hM hS (lv_sub hl [1, 0] rfl) (by first | (rw [if_neg c_3, if_neg c_6, if_pos c_9]) | rfl | (simp only [c_3, c_6, c_9, if_true, if_false, ite_true, ite_false, not_false_eq_true, reduceIte]))
      · refine lv_iinc (v := 3) (lv' := [(1, .int 3), (0, .ref (ad 2 k))]) hx hb dX2_thawed_19 hl (k := 0) rfl ((by decide)) (by decide) rfl (fun ls hl => ?_)
        refine lv_goto (tgt := 2) hx hb dX2_thawed_22 (by decide) ?_
        refine lv_iload_n hx hb dX2_thawed_2 rfl (lv_at hl 0 rfl) ?_
        refine lv_iconst (v := 5) hx hb dX2_thawed_3 (by decide) ?_
        refine lv_icmp_ge (tgt := 25) hx hb dX2_thawed_4 (by decide) (fun c9 => absurd c9 (by decide)) (fun _ => ?_)
        refine lv_aload_n hx hb dX2_thawed_7 rfl (lv_at hl 1 rfl) ?_
        refine m_get hx hb hts in_X2 hown hE hM 2 k (cw_2 (by omega)) (ci := 2) rfl 1 (by decide) (hts _ q138) (fun _ h9 => h9) rfl dX2_thawed_8 ?_
        refine lv_iload_n hx hb dX2_thawed_11 rfl (lv_at hl 0 rfl) ?_
        refine m_aald hx hb hE hM 3 k 4 (cw_3 (by omega)) rfl 3 (by omega) (by decide) rfl rfl dX2_thawed_12 ?_
        refine m_cpi (m_rV (As := []) (rest := []) hcf (k_X3_isThawed l g A ad Mx x (5 * k + 3) (by omega)) (cwV 0 hts (lw_V q863 q621 q622 q40 q623) rfl rfl rfl (by decide +kernel) ⟨Nat.le_of_ble_eq_true rfl, Nat.le_of_ble_eq_true rfl⟩) hE hA hM hS 4 (5 * k + 3) (cw_4 (by omega)) (ci := 3) rfl rfl hl.1 rfl (Nat.le_of_ble_eq_true rfl) dX2_thawed_13 ⟨Nat.le_of_ble_eq_true rfl, Nat.le_of_ble_eq_true rfl⟩) hS (fun H locs hM hS => ?_)
        refine lv_if_eq (tgt := 25) hx hb dX2_thawed_16 (by decide) (fun c_12 => ?_) (fun c_12 => ?_)
        · skip
          exact J_20 H locs ls _ hM hS (lv_sub hl [1, 0] rfl) (by first | (rw [if_neg c_3, if_neg c_6, if_neg c_9, if_pos c_12]) | rfl | (simp only [c_3, c_6, c_9, c_12, if_true, if_false, ite_true, ite_false, not_false_eq_true, reduceIte]))
        · refine lv_iinc (v := 4) (lv' := [(1, .int 4), (0, .ref (ad 2 k))]) hx hb dX2_thawed_19 hl (k := 0) rfl ((by decide)) (by decide) rfl (fun ls hl => ?_)
          refine lv_goto (tgt := 2) hx hb dX2_thawed_22 (by decide) ?_
          refine lv_iload_n hx hb dX2_thawed_2 rfl (lv_at hl 0 rfl) ?_
          refine lv_iconst (v := 5) hx hb dX2_thawed_3 (by decide) ?_
          refine lv_icmp_ge (tgt := 25) hx hb dX2_thawed_4 (by decide) (fun c9 => absurd c9 (by decide)) (fun _ => ?_)
          refine lv_aload_n hx hb dX2_thawed_7 rfl (lv_at hl 1 rfl) ?_
          refine m_get hx hb hts in_X2 hown hE hM 2 k (cw_2 (by omega)) (ci := 2) rfl 1 (by decide) (hts _ q138) (fun _ h9 => h9) rfl dX2_thawed_8 ?_
          refine lv_iload_n hx hb dX2_thawed_11 rfl (lv_at hl 0 rfl) ?_
          refine m_aald hx hb hE hM 3 k 4 (cw_3 (by omega)) rfl 4 (by omega) (by decide) rfl rfl dX2_thawed_12 ?_
          refine m_cpi (m_rV (As := []) (rest := []) hcf (k_X3_isThawed l g A ad Mx x (5 * k + 4) (by omega)) (cwV 0 hts (lw_V q863 q621 q622 q40 q623) rfl rfl rfl (by decide +kernel) ⟨Nat.le_of_ble_eq_true rfl, Nat.le_of_ble_eq_true rfl⟩) hE hA hM hS 4 (5 * k + 4) (cw_4 (by omega)) (ci := 3) rfl rfl hl.1 rfl (Nat.le_of_ble_eq_true rfl) dX2_thawed_13 ⟨Nat.le_of_ble_eq_true rfl, Nat.le_of_ble_eq_true rfl⟩) hS (fun H locs hM hS => ?_)
          refine lv_if_eq (tgt := 25) hx hb dX2_thawed_16 (by decide) (fun c_15 => ?_) (fun c_15 => ?_)
          · skip
            exact J_20 H locs ls _ hM hS (lv_sub hl [1, 0] rfl) (by first | (rw [if_neg c_3, if_neg c_6, if_neg c_9, if_neg c_12, if_pos c_15]) | rfl | (simp only [c_3, c_6, c_9, c_12, c_15, if_true, if_false, ite_true, ite_false, not_false_eq_true, reduceIte]))
          · refine lv_iinc (v := 5) (lv' := [(1, .int 5), (0, .ref (ad 2 k))]) hx hb dX2_thawed_19 hl (k := 0) rfl ((by decide)) (by decide) rfl (fun ls hl => ?_)
            refine lv_goto (tgt := 2) hx hb dX2_thawed_22 (by decide) ?_
            refine lv_iload_n hx hb dX2_thawed_2 rfl (lv_at hl 0 rfl) ?_
            refine lv_iconst (v := 5) hx hb dX2_thawed_3 (by decide) ?_
            refine lv_icmp_ge (tgt := 25) hx hb dX2_thawed_4 (by decide) (fun _ => ?_) (fun c9 => absurd (by decide) c9)
            exact J_20 H locs ls _ hM hS (lv_sub hl [1, 0] rfl) (by first | (rw [if_neg c_3, if_neg c_6, if_neg c_9, if_neg c_12, if_neg c_15]) | rfl | (simp only [c_3, c_6, c_9, c_12, c_15, if_true, if_false, ite_true, ite_false, not_false_eq_true, reduceIte]))
