/-! the land's own methods: reading, cellOf, neighbour, balance -/
set_option maxRecDepth 100000
theorem mW_eq {D : va_G} {A : Nat → Prop} {g : GG} {ad : Nat → Nat → Nat} {Mx : MM} {H : Heap} {w z : St} (h : w = z) (hM : mW D A (cwM g ad Mx w) H) : mW D A (cwM g ad Mx z) H := Eq.subst (motive := fun z => mW D A (cwM g ad Mx z) H) h hM
def cl6S (x : St) (k : Nat) : St := if (fgtF x 25).1 3 k = 0 then fgtF x 25 else (spF (fgtF x 25) k).1
def cl6F (x : St) (k : Nat) : Int32 := if (fgtF x 25).1 3 k = 0 then 0 else nI (spF (fgtF x 25) k).2
theorem cl6_0 {x y : St} {k : Nat} (h1 : fgtF x 25 = y) (h : y.1 3 k = 0) : y = cl6S x k ∧ 0 = cl6F x k := by
  unfold cl6S cl6F
  rw [h1, if_pos h, if_pos h]
  exact ⟨rfl, rfl⟩
theorem cl6_1 {x y : St} {k : Nat} {q : St × Nat} (h1 : fgtF x 25 = y) (h2 : spF y k = q) (h : ¬ y.1 3 k = 0) : q.1 = cl6S x k ∧ nI q.2 = cl6F x k := by
  unfold cl6S cl6F
  rw [h1, if_neg h, if_neg h, h2]
  exact ⟨rfl, rfl⟩
def cceS (x : St) (k w : Nat) : St := if w = 6 then cl6S x k else x
def cceF (x : St) (k w : Nat) : Int32 := if w = 0 then x.1 2 k else if w = 1 then x.1 3 k else if w = 2 then x.1 4 k else if w = 3 then x.1 5 k else if w = 4 then x.1 6 k else if w = 5 then (if x.1 52 k = (-1) then (-1) else nI (nt x 52 k)) else if w = 6 then cl6F x k else ctaF x k
theorem cceF_0 (x : St) (k : Nat) : cceF x k 0 = x.1 2 k := by
  unfold cceF
  rw [if_pos rfl]
theorem cceF_1 (x : St) (k : Nat) : cceF x k 1 = x.1 3 k := by
  unfold cceF
  rw [if_neg (by decide), if_pos rfl]
theorem cceF_2 (x : St) (k : Nat) : cceF x k 2 = x.1 4 k := by
  unfold cceF
  rw [if_neg (by decide), if_neg (by decide), if_pos rfl]
theorem cceF_3 (x : St) (k : Nat) : cceF x k 3 = x.1 5 k := by
  unfold cceF
  rw [if_neg (by decide), if_neg (by decide), if_neg (by decide), if_pos rfl]
theorem cceF_4 (x : St) (k : Nat) : cceF x k 4 = x.1 6 k := by
  unfold cceF
  rw [if_neg (by decide), if_neg (by decide), if_neg (by decide), if_neg (by decide), if_pos rfl]
theorem cceF_5 (x : St) (k : Nat) : cceF x k 5 = (if x.1 52 k = (-1) then (-1) else nI (nt x 52 k) : Int32) := by
  unfold cceF
  rw [if_neg (by decide), if_neg (by decide), if_neg (by decide), if_neg (by decide), if_neg (by decide), if_pos rfl]
theorem cceF_7 (x : St) (k : Nat) : cceF x k 7 = ctaF x k := by
  unfold cceF
  rw [if_neg (by decide), if_neg (by decide), if_neg (by decide), if_neg (by decide), if_neg (by decide), if_neg (by decide), if_neg (by decide)]
theorem cceS_o (x : St) (k : Nat) {w : Nat} (h : w ≠ 6) : cceS x k w = x := if_neg h
theorem cceS_6 (x : St) (k : Nat) : cceS x k 6 = cl6S x k := if_pos rfl
theorem cceF_6 (x : St) (k : Nat) : cceF x k 6 = cl6F x k := by
  unfold cceF
  rw [if_neg (by decide), if_neg (by decide), if_neg (by decide), if_neg (by decide), if_neg (by decide), if_neg (by decide), if_pos rfl]
/-- the neighbour after so many -/
def neS (w : Nat) (q : Int32 × Int32) : Int32 × Int32 := if q.2 = (-1) then (if q.1 = 0 then (q.1, nI w) else (q.1 + (-1), -1)) else q
def sndI (q : Int32 × Int32) : Int32 := q.2
def cneF (k : Nat) (a : Int32) : Int32 := sndI (nbF k neS 4 (skpN k 4 0) (a, -1))
theorem neS_stay {k : Nat} : ∀ (f n : Nat) (q : Int32 × Int32), ¬ q.2 = (-1) → nbF k neS f n q = q := by
  intro f
  induction f with
  | zero => intro n q _; rfl
  | succ f ih =>
    intro n q h
    show (if 4 ≤ n then q else nbF k neS f (skpN k 4 (n + 1)) (neS (nbN k n) q)) = q
    have e : neS (nbN k n) q = q := if_neg h
    rw [e, ih _ _ h]
    split <;> rfl
theorem nI_m1 : ∀ n, n < 25 → ¬ nI n = (-1) := by decide +kernel
theorem ne_ret {k n f : Nat} {b : Nat} {a : Int32} {w R : Int32 × Int32} (hb : b < 25) (h1 : w.2 = (-1)) (h0 : w.1 = 0) (he : nbF k neS f n (neS b w) = R) (hR : nbF k neS 4 (skpN k 4 0) (a, -1) = R) : nI b = cneF k a := by
  have e : neS b w = (w.1, nI b) := by unfold neS; rw [if_pos h1, if_pos h0]
  rw [e, neS_stay _ _ _ (nI_m1 b hb)] at he
  have e2 : cneF k a = sndI R := congrArg sndI hR
  rw [e2, ← he]
  rfl
theorem ne_end {k : Nat} {a : Int32} {R : Int32 × Int32} (h1 : R.2 = (-1)) (hR : nbF k neS 4 (skpN k 4 0) (a, -1) = R) : (-1) = cneF k a := by
  have e2 : cneF k a = sndI R := congrArg sndI hR
  rw [e2]
  exact h1.symm
def cilI (x : St) (w : Int32) (c : Nat) (s0 : Int64) : Nat → Int64 := it (fun s l => s + if w = 0 then (x.1 10 (5 * c + l)).toInt64 else (if w = 1 then (x.1 8 (5 * c + l) + x.1 9 (5 * c + l)).toInt64 else (x.1 11 (5 * c + l)).toInt64)) s0
def cilC (x : St) (w : Int32) (s : Int64) (c : Nat) : Int64 := cilI x w c (s + if w = 0 then 1000 * (x.1 3 c).toInt64 else (if w = 1 then (x.1 3 c).toInt64 else 0)) 5
def cilL (x : St) (w : Int32) : Nat → Int64 := it (cilC x w) 0
theorem cilL_s (x : St) (w : Int32) (i : Nat) : cilL x w (i + 1) = cilC x w (cilL x w i) i := it_succ _ _ _
theorem cilI_s (x : St) (w : Int32) (c : Nat) (s0 : Int64) (i : Nat) : cilI x w c s0 (i + 1) = cilI x w c s0 i + if w = 0 then (x.1 10 (5 * c + i)).toInt64 else (if w = 1 then (x.1 8 (5 * c + i) + x.1 9 (5 * c + i)).toInt64 else (x.1 11 (5 * c + i)).toInt64) := it_succ _ _ _
def cilF (x : St) (w : Int32) : Int64 := cilL x w 25
def cbaL (x : St) (j : Nat) : Int64 := if nI j = 0 then 1000 * x.2 29 else (if nI j = 1 then x.2 29 else x.2 30 + x.2 31)
def cbaF (x : St) (j : Nat) (v : Int32) : Int64 := if v = 0 then cilF x (nI j) else (if v = 1 then x.2 (26 + j) else (if v = 2 then cbaL x j else x.2 (26 + j) - cilF x (nI j) - cbaL x j))
theorem inF_thr {k : Nat} (h : k < 3) : inF (nI k) 0 2 = 1 := by
  have key : ∀ k, k < 3 → inF (nI k) 0 2 = 1 := by decide +kernel
  exact key k h
abbrev rm_X1_reading_ok : Room := { frames := 3, cells := 0, slots := 0, locals := 64 }
set_option maxHeartbeats 400000 in
theorem k_X1_reading_ok (l : Launch) (g : GG) (A : Nat → Prop) (ad : Nat → Nat → Nat) (Mx : MM) (x : St) (hls : lsOK x) (b : Nat) (hbb : b < nt x 19 0) (mo n : Nat) (hmo : mo < 600) (hn : n < 5) (hw : chasF x b (nI mo) (x.1 1 0) = 1) : Met l yX1_reading (ws_ yX1_reading cX1_reading 5 (some .int)) rm_X1_reading_ok (va_Pc [.ref (ad 0 0), .int (nI b), .int (nI mo), .int (nI n)] (mPre g A (cwM g ad Mx x))) (pQi g A (x.1 23 (3000 * b + (5 * mo + n))) (cwM g ad Mx x)) 0 0 A := by
  refine m_start RX1 rfl (by decide) (Nat.le_of_ble_eq_true rfl) ?_
  intro p e s m args below meth c hcf hr hlk hnm hE hA H locs hM hS ls hl
  have hx := hcf.1
  have hb := hcf.2.1
  have hml := hcf.2.2.1
  have hown := hcf.2.2.2.1
  have hts := hcf.2.2.2.2
  have hl : lv_has ls 5 [(0, .ref (ad 0 0)), (1, .int (nI b)), (2, .int (nI mo)), (3, .int (nI n))] := hl
  obtain ⟨hb13, hb19, hb24, hs0, hs1, hs2⟩ := hls_n x hls
  generalize hQ : MQ below (pQi g A (x.1 23 (3000 * b + (5 * mo + n))) (cwM g ad Mx x)) args s 0 0 A = Q
  refine lv_iload_n hx hb dX1_reading_0 rfl (lv_at hl 1 rfl) ?_
  refine lv_iconst (v := 0) hx hb dX1_reading_1 (by decide) ?_
  refine lv_aload_n hx hb dX1_reading_2 rfl (lv_at hl 0 rfl) ?_
  refine m_get hx hb hts in_X1 hown hE hM 0 0 cw_0 (ci := 0) rfl 2 (by decide) (hts _ q181) (fun _ h9 => h9) rfl dX1_reading_3 ?_
  refine m_cpi (m_rV (As := []) (rest := [.int 0, .int (nI b)]) hcf (k_J2_size l g A ad Mx x 1 (by omega)) (cwV 0 hts (lw_V q575 q576 q577 q38 q578) rfl rfl rfl (by decide +kernel) ⟨Nat.le_of_ble_eq_true rfl, Nat.le_of_ble_eq_true rfl⟩) hE hA hM hS 5 1 (cw_5 (by omega)) (ci := 8) rfl rfl hl.1 rfl (Nat.le_of_ble_eq_true rfl) dX1_reading_6 ⟨Nat.le_of_ble_eq_true rfl, Nat.le_of_ble_eq_true rfl⟩) hS (fun H locs hM hS => ?_)
  refine m_topI (y := nI (nt x 19 0)) (hs1) ?_
  refine lv_iconst (v := 1) hx hb dX1_reading_9 (by decide) ?_
  refine lv_isub hx hb dX1_reading_10 ?_
  refine m_cpi (m_rS (As := [.int (nI b), .int 0, .int ((nI (nt x 19 0)) - 1)]) (rest := []) hcf (k_X1_isIn l g A (cwM g ad Mx x) (nI b) 0 ((nI (nt x 19 0)) - 1)) (va_cwS 3 hts (lw_S q420 q421 q35 q422) rfl rfl rfl (by decide +kernel) ⟨Nat.le_of_ble_eq_true rfl, Nat.le_of_ble_eq_true rfl⟩) hE hA hM hS rfl hl.1 rfl (Nat.le_of_ble_eq_true rfl) dX1_reading_11 ⟨Nat.le_of_ble_eq_true rfl, Nat.le_of_ble_eq_true rfl⟩) hS (fun H locs hM hS => ?_)
  refine m_topI (y := 1) (inF_cnt0 hbb hb19) ?_
  refine lv_if_eq (tgt := 30) hx hb dX1_reading_14 (by decide) (fun c9 => absurd c9 (by decide)) (fun _ => ?_)
  refine lv_iload_n hx hb dX1_reading_17 rfl (lv_at hl 3 rfl) ?_
  refine lv_iconst (v := 0) hx hb dX1_reading_18 (by decide) ?_
  refine lv_iconst (v := 4) hx hb dX1_reading_19 (by decide) ?_
  refine m_cpi (m_rS (As := [.int (nI n), .int 0, .int 4]) (rest := []) hcf (k_X1_isIn l g A (cwM g ad Mx x) (nI n) 0 4) (va_cwS 3 hts (lw_S q420 q421 q35 q422) rfl rfl rfl (by decide +kernel) ⟨Nat.le_of_ble_eq_true rfl, Nat.le_of_ble_eq_true rfl⟩) hE hA hM hS rfl hl.1 rfl (Nat.le_of_ble_eq_true rfl) dX1_reading_20 ⟨Nat.le_of_ble_eq_true rfl, Nat.le_of_ble_eq_true rfl⟩) hS (fun H locs hM hS => ?_)
  refine m_topI (y := 1) (inF_lay hn) ?_
  refine lv_if_eq (tgt := 30) hx hb dX1_reading_23 (by decide) (fun c9 => absurd c9 (by decide)) (fun _ => ?_)
  refine lv_iconst (v := 1) hx hb dX1_reading_26 (by decide) ?_
  refine lv_goto (tgt := 31) hx hb dX1_reading_27 (by decide) ?_
  refine m_cpv (m_rS (As := [.int 1]) (rest := []) hcf (k_X1_known_ok l g A (cwM g ad Mx x)) (va_cwS 1 hts (lw_S q423 q424 q35 q425) rfl rfl rfl (by decide +kernel) ⟨Nat.le_of_ble_eq_true rfl, Nat.le_of_ble_eq_true rfl⟩) hE hA hM hS rfl hl.1 rfl (Nat.le_of_ble_eq_true rfl) dX1_reading_31 ⟨Nat.le_of_ble_eq_true rfl, Nat.le_of_ble_eq_true rfl⟩) hS (fun H locs hM hS => ?_)
  refine lv_aload_n hx hb dX1_reading_34 rfl (lv_at hl 0 rfl) ?_
  refine m_get hx hb hts in_X1 hown hE hM 0 0 cw_0 (ci := 0) rfl 2 (by decide) (hts _ q181) (fun _ h9 => h9) rfl dX1_reading_35 ?_
  refine lv_iload_n hx hb dX1_reading_38 rfl (lv_at hl 1 rfl) ?_
  refine m_cpr (m_rV (As := [.int (nI b)]) (rest := []) hcf (k_J2_get l g A ad Mx x hls 1 (by omega) b (by show _ < nt x 19 0; omega)) (cwV 1 hts (lw_V q579 q580 q581 q38 q582) rfl rfl rfl (by decide +kernel) ⟨Nat.le_of_ble_eq_true rfl, Nat.le_of_ble_eq_true rfl⟩) hE hA hM hS 5 1 (cw_5 (by omega)) (ci := 8) rfl rfl hl.1 rfl (Nat.le_of_ble_eq_true rfl) dX1_reading_39 ⟨Nat.le_of_ble_eq_true rfl, Nat.le_of_ble_eq_true rfl⟩) hS (fun H locs hM hS => ?_)
  refine va_castS hx hb hown (hts _ q624) (hE.1.1 6 _ rfl).2 (m_recv hE hM ((cw_8 (by omega)) : cwM g ad Mx x 8 b = _) rfl) dX1_reading_42 ?_
  refine lv_astore (lv' := [(4, .ref (ad 8 b)), (0, .ref (ad 0 0)), (1, .int (nI b)), (2, .int (nI mo)), (3, .int (nI n))]) hx hb dX1_reading_45 hl (by decide) rfl (fun ls hl => ?_)
  refine lv_aload hx hb dX1_reading_47 (lv_at hl 0 rfl) ?_
  refine lv_iload_n hx hb dX1_reading_49 rfl (lv_at hl 3 rfl) ?_
  refine lv_aload_n hx hb dX1_reading_50 rfl (lv_at hl 1 rfl) ?_
  refine m_get hx hb hts in_X1 hown hE hM 0 0 cw_0 (ci := 0) rfl 7 (by decide) (hts _ q187) (fun _ h9 => h9) rfl dX1_reading_51 ?_
  refine m_cpi (m_rV (As := [.int (nI mo), .int (x.1 1 0)]) (rest := []) hcf (k_X7_has l g A ad Mx x b (by omega) (nI mo) (x.1 1 0)) (cwV 2 hts (lw_V q785 q786 q787 q62 q788) rfl rfl rfl (by decide +kernel) ⟨Nat.le_of_ble_eq_true rfl, Nat.le_of_ble_eq_true rfl⟩) hE hA hM hS 8 b (cw_8 (by omega)) (ci := 6) rfl rfl hl.1 rfl (Nat.le_of_ble_eq_true rfl) dX1_reading_54 ⟨Nat.le_of_ble_eq_true rfl, Nat.le_of_ble_eq_true rfl⟩) hS (fun H locs hM hS => ?_)
  refine m_topI (y := 1) (hw) ?_
  refine m_cpv (m_rS (As := [.int 1]) (rest := []) hcf (k_X1_known_ok l g A (cwM g ad Mx x)) (va_cwS 1 hts (lw_S q423 q424 q35 q425) rfl rfl rfl (by decide +kernel) ⟨Nat.le_of_ble_eq_true rfl, Nat.le_of_ble_eq_true rfl⟩) hE hA hM hS rfl hl.1 rfl (Nat.le_of_ble_eq_true rfl) dX1_reading_57 ⟨Nat.le_of_ble_eq_true rfl, Nat.le_of_ble_eq_true rfl⟩) hS (fun H locs hM hS => ?_)
  refine lv_aload hx hb dX1_reading_60 (lv_at hl 0 rfl) ?_
  refine lv_iload_n hx hb dX1_reading_62 rfl (lv_at hl 3 rfl) ?_
  refine lv_iload_n hx hb dX1_reading_63 rfl (lv_at hl 4 rfl) ?_
  refine m_cpi (m_rV (As := [.int (nI mo), .int (nI n)]) (rest := []) hcf (k_X7_told l g A ad Mx x b (by omega) mo n (by omega) (by omega)) (cwV 2 hts (lw_V q789 q790 q791 q62 q792) rfl rfl rfl (by decide +kernel) ⟨Nat.le_of_ble_eq_true rfl, Nat.le_of_ble_eq_true rfl⟩) hE hA hM hS 8 b (cw_8 (by omega)) (ci := 6) rfl rfl hl.1 rfl (Nat.le_of_ble_eq_true rfl) dX1_reading_64 ⟨Nat.le_of_ble_eq_true rfl, Nat.le_of_ble_eq_true rfl⟩) hS (fun H locs hM hS => ?_)
  rw [← hQ]
  exact m_iret () hx hb hr rfl hlk hM hS (by first | rfl) (by first | decide | omega) (by first | decide | omega) dX1_reading_67

abbrev rm_X1_reading_n1 : Room := { frames := 7, cells := 1, slots := 6, locals := 102 }
set_option maxHeartbeats 400000 in
theorem k_X1_reading_n1 (l : Launch) (g : GG) (A : Nat → Prop) (hlt : l.stackTraces = false) (ad : Nat → Nat → Nat) (Mx : MM) (x : St) (hls : lsOK x) (a0 a1 a2 : Int32) (h0 : inF a0 0 (nI (nt x 19 0) - 1) = 0) : vx_Met l yX1_reading (ws_ yX1_reading cX1_reading 5 (some .int)) rm_X1_reading_n1 (va_Pc [.ref (ad 0 0), .int a0, .int a1, .int a2] (mPre g A (cwM g ad Mx x))) pNo (mX g A "java/lang/IndexOutOfBoundsException" (cwM g ad Mx x)) 1 6 A := by
  refine m_startX RX1 rfl (by decide) (Nat.le_of_ble_eq_true rfl) ?_
  intro p e s m args below meth c hcf hr hlk hnm hE hA ht H locs hM hS ls hl
  have hx := hcf.1
  have hb := hcf.2.1
  have hml := hcf.2.2.1
  have hown := hcf.2.2.2.1
  have hts := hcf.2.2.2.2
  have hl : lv_has ls 5 [(0, .ref (ad 0 0)), (1, .int a0), (2, .int a1), (3, .int a2)] := hl
  obtain ⟨hb13, hb19, hb24, hs0, hs1, hs2⟩ := hls_n x hls
  generalize hQ : vx_MQ below pNo (mX g A "java/lang/IndexOutOfBoundsException" (cwM g ad Mx x)) args s 1 6 A = Q
  refine lv_iload_n hx hb dX1_reading_0 rfl (lv_at hl 1 rfl) ?_
  refine lv_iconst (v := 0) hx hb dX1_reading_1 (by decide) ?_
  refine lv_aload_n hx hb dX1_reading_2 rfl (lv_at hl 0 rfl) ?_
  refine m_get hx hb hts in_X1 hown hE hM 0 0 cw_0 (ci := 0) rfl 2 (by decide) (hts _ q181) (fun _ h9 => h9) rfl dX1_reading_3 ?_
  refine m_cpi (m_rV (As := []) (rest := [.int 0, .int a0]) hcf (k_J2_size l g A ad Mx x 1 (by omega)) (cwV 0 hts (lw_V q575 q576 q577 q38 q578) rfl rfl rfl (by decide +kernel) ⟨Nat.le_of_ble_eq_true rfl, Nat.le_of_ble_eq_true rfl⟩) hE hA hM hS 5 1 (cw_5 (by omega)) (ci := 8) rfl rfl hl.1 rfl (Nat.le_of_ble_eq_true rfl) dX1_reading_6 ⟨Nat.le_of_ble_eq_true rfl, Nat.le_of_ble_eq_true rfl⟩) hS (fun H locs hM hS => ?_)
  refine m_topI (y := nI (nt x 19 0)) (hs1) ?_
  refine lv_iconst (v := 1) hx hb dX1_reading_9 (by decide) ?_
  refine lv_isub hx hb dX1_reading_10 ?_
  refine m_cpi (m_rS (As := [.int a0, .int 0, .int ((nI (nt x 19 0)) - 1)]) (rest := []) hcf (k_X1_isIn l g A (cwM g ad Mx x) a0 0 ((nI (nt x 19 0)) - 1)) (va_cwS 3 hts (lw_S q420 q421 q35 q422) rfl rfl rfl (by decide +kernel) ⟨Nat.le_of_ble_eq_true rfl, Nat.le_of_ble_eq_true rfl⟩) hE hA hM hS rfl hl.1 rfl (Nat.le_of_ble_eq_true rfl) dX1_reading_11 ⟨Nat.le_of_ble_eq_true rfl, Nat.le_of_ble_eq_true rfl⟩) hS (fun H locs hM hS => ?_)
  refine m_topI (y := 0) (h0) ?_
  refine lv_if_eq (tgt := 30) hx hb dX1_reading_14 (by decide) (fun _ => ?_) (fun c9 => absurd (by decide) c9)
  refine lv_iconst (v := 0) hx hb dX1_reading_30 (by decide) ?_
  rw [← hQ]
  exact m_xend (m_xS (As := [.int 0]) (rest := []) hcf (k_X1_known_no l g A hlt (cwM g ad Mx x)) (va_cwS 1 hts (lw_S q423 q424 q35 q425) rfl rfl rfl (by decide +kernel) ⟨Nat.le_of_ble_eq_true rfl, Nat.le_of_ble_eq_true rfl⟩) hE hA hM hS rfl hl.1 rfl (Nat.le_of_ble_eq_true rfl) dX1_reading_31 ⟨Nat.le_of_ble_eq_true rfl, Nat.le_of_ble_eq_true rfl⟩) ht hlk hS (Nat.le_of_ble_eq_true rfl) (Nat.le_of_ble_eq_true rfl)

abbrev rm_X1_reading_n2 : Room := { frames := 7, cells := 1, slots := 6, locals := 102 }
set_option maxHeartbeats 400000 in
theorem k_X1_reading_n2 (l : Launch) (g : GG) (A : Nat → Prop) (hlt : l.stackTraces = false) (ad : Nat → Nat → Nat) (Mx : MM) (x : St) (hls : lsOK x) (b : Nat) (hbb : b < nt x 19 0) (a1 a2 : Int32) (h1 : inF a2 0 4 = 0) : vx_Met l yX1_reading (ws_ yX1_reading cX1_reading 5 (some .int)) rm_X1_reading_n2 (va_Pc [.ref (ad 0 0), .int (nI b), .int a1, .int a2] (mPre g A (cwM g ad Mx x))) pNo (mX g A "java/lang/IndexOutOfBoundsException" (cwM g ad Mx x)) 1 6 A := by
  refine m_startX RX1 rfl (by decide) (Nat.le_of_ble_eq_true rfl) ?_
  intro p e s m args below meth c hcf hr hlk hnm hE hA ht H locs hM hS ls hl
  have hx := hcf.1
  have hb := hcf.2.1
  have hml := hcf.2.2.1
  have hown := hcf.2.2.2.1
  have hts := hcf.2.2.2.2
  have hl : lv_has ls 5 [(0, .ref (ad 0 0)), (1, .int (nI b)), (2, .int a1), (3, .int a2)] := hl
  obtain ⟨hb13, hb19, hb24, hs0, hs1, hs2⟩ := hls_n x hls
  generalize hQ : vx_MQ below pNo (mX g A "java/lang/IndexOutOfBoundsException" (cwM g ad Mx x)) args s 1 6 A = Q
  refine lv_iload_n hx hb dX1_reading_0 rfl (lv_at hl 1 rfl) ?_
  refine lv_iconst (v := 0) hx hb dX1_reading_1 (by decide) ?_
  refine lv_aload_n hx hb dX1_reading_2 rfl (lv_at hl 0 rfl) ?_
  refine m_get hx hb hts in_X1 hown hE hM 0 0 cw_0 (ci := 0) rfl 2 (by decide) (hts _ q181) (fun _ h9 => h9) rfl dX1_reading_3 ?_
  refine m_cpi (m_rV (As := []) (rest := [.int 0, .int (nI b)]) hcf (k_J2_size l g A ad Mx x 1 (by omega)) (cwV 0 hts (lw_V q575 q576 q577 q38 q578) rfl rfl rfl (by decide +kernel) ⟨Nat.le_of_ble_eq_true rfl, Nat.le_of_ble_eq_true rfl⟩) hE hA hM hS 5 1 (cw_5 (by omega)) (ci := 8) rfl rfl hl.1 rfl (Nat.le_of_ble_eq_true rfl) dX1_reading_6 ⟨Nat.le_of_ble_eq_true rfl, Nat.le_of_ble_eq_true rfl⟩) hS (fun H locs hM hS => ?_)
  refine m_topI (y := nI (nt x 19 0)) (hs1) ?_
  refine lv_iconst (v := 1) hx hb dX1_reading_9 (by decide) ?_
  refine lv_isub hx hb dX1_reading_10 ?_
  refine m_cpi (m_rS (As := [.int (nI b), .int 0, .int ((nI (nt x 19 0)) - 1)]) (rest := []) hcf (k_X1_isIn l g A (cwM g ad Mx x) (nI b) 0 ((nI (nt x 19 0)) - 1)) (va_cwS 3 hts (lw_S q420 q421 q35 q422) rfl rfl rfl (by decide +kernel) ⟨Nat.le_of_ble_eq_true rfl, Nat.le_of_ble_eq_true rfl⟩) hE hA hM hS rfl hl.1 rfl (Nat.le_of_ble_eq_true rfl) dX1_reading_11 ⟨Nat.le_of_ble_eq_true rfl, Nat.le_of_ble_eq_true rfl⟩) hS (fun H locs hM hS => ?_)
  refine m_topI (y := 1) (inF_cnt0 hbb hb19) ?_
  refine lv_if_eq (tgt := 30) hx hb dX1_reading_14 (by decide) (fun c9 => absurd c9 (by decide)) (fun _ => ?_)
  refine lv_iload_n hx hb dX1_reading_17 rfl (lv_at hl 3 rfl) ?_
  refine lv_iconst (v := 0) hx hb dX1_reading_18 (by decide) ?_
  refine lv_iconst (v := 4) hx hb dX1_reading_19 (by decide) ?_
  refine m_cpi (m_rS (As := [.int a2, .int 0, .int 4]) (rest := []) hcf (k_X1_isIn l g A (cwM g ad Mx x) a2 0 4) (va_cwS 3 hts (lw_S q420 q421 q35 q422) rfl rfl rfl (by decide +kernel) ⟨Nat.le_of_ble_eq_true rfl, Nat.le_of_ble_eq_true rfl⟩) hE hA hM hS rfl hl.1 rfl (Nat.le_of_ble_eq_true rfl) dX1_reading_20 ⟨Nat.le_of_ble_eq_true rfl, Nat.le_of_ble_eq_true rfl⟩) hS (fun H locs hM hS => ?_)
  refine m_topI (y := 0) (h1) ?_
  refine lv_if_eq (tgt := 30) hx hb dX1_reading_23 (by decide) (fun _ => ?_) (fun c9 => absurd (by decide) c9)
  refine lv_iconst (v := 0) hx hb dX1_reading_30 (by decide) ?_
  rw [← hQ]
  exact m_xend (m_xS (As := [.int 0]) (rest := []) hcf (k_X1_known_no l g A hlt (cwM g ad Mx x)) (va_cwS 1 hts (lw_S q423 q424 q35 q425) rfl rfl rfl (by decide +kernel) ⟨Nat.le_of_ble_eq_true rfl, Nat.le_of_ble_eq_true rfl⟩) hE hA hM hS rfl hl.1 rfl (Nat.le_of_ble_eq_true rfl) dX1_reading_31 ⟨Nat.le_of_ble_eq_true rfl, Nat.le_of_ble_eq_true rfl⟩) ht hlk hS (Nat.le_of_ble_eq_true rfl) (Nat.le_of_ble_eq_true rfl)

abbrev rm_X1_reading_n3 : Room := { frames := 7, cells := 1, slots := 6, locals := 102 }
set_option maxHeartbeats 400000 in
theorem k_X1_reading_n3 (l : Launch) (g : GG) (A : Nat → Prop) (hlt : l.stackTraces = false) (ad : Nat → Nat → Nat) (Mx : MM) (x : St) (hls : lsOK x) (b : Nat) (hbb : b < nt x 19 0) (a1 : Int32) (n : Nat) (hn : n < 5) (hw : chasF x b a1 (x.1 1 0) = 0) : vx_Met l yX1_reading (ws_ yX1_reading cX1_reading 5 (some .int)) rm_X1_reading_n3 (va_Pc [.ref (ad 0 0), .int (nI b), .int a1, .int (nI n)] (mPre g A (cwM g ad Mx x))) pNo (mX g A "java/lang/IndexOutOfBoundsException" (cwM g ad Mx x)) 1 6 A := by
  refine m_startX RX1 rfl (by decide) (Nat.le_of_ble_eq_true rfl) ?_
  intro p e s m args below meth c hcf hr hlk hnm hE hA ht H locs hM hS ls hl
  have hx := hcf.1
  have hb := hcf.2.1
  have hml := hcf.2.2.1
  have hown := hcf.2.2.2.1
  have hts := hcf.2.2.2.2
  have hl : lv_has ls 5 [(0, .ref (ad 0 0)), (1, .int (nI b)), (2, .int a1), (3, .int (nI n))] := hl
  obtain ⟨hb13, hb19, hb24, hs0, hs1, hs2⟩ := hls_n x hls
  generalize hQ : vx_MQ below pNo (mX g A "java/lang/IndexOutOfBoundsException" (cwM g ad Mx x)) args s 1 6 A = Q
  refine lv_iload_n hx hb dX1_reading_0 rfl (lv_at hl 1 rfl) ?_
  refine lv_iconst (v := 0) hx hb dX1_reading_1 (by decide) ?_
  refine lv_aload_n hx hb dX1_reading_2 rfl (lv_at hl 0 rfl) ?_
  refine m_get hx hb hts in_X1 hown hE hM 0 0 cw_0 (ci := 0) rfl 2 (by decide) (hts _ q181) (fun _ h9 => h9) rfl dX1_reading_3 ?_
  refine m_cpi (m_rV (As := []) (rest := [.int 0, .int (nI b)]) hcf (k_J2_size l g A ad Mx x 1 (by omega)) (cwV 0 hts (lw_V q575 q576 q577 q38 q578) rfl rfl rfl (by decide +kernel) ⟨Nat.le_of_ble_eq_true rfl, Nat.le_of_ble_eq_true rfl⟩) hE hA hM hS 5 1 (cw_5 (by omega)) (ci := 8) rfl rfl hl.1 rfl (Nat.le_of_ble_eq_true rfl) dX1_reading_6 ⟨Nat.le_of_ble_eq_true rfl, Nat.le_of_ble_eq_true rfl⟩) hS (fun H locs hM hS => ?_)
  refine m_topI (y := nI (nt x 19 0)) (hs1) ?_
  refine lv_iconst (v := 1) hx hb dX1_reading_9 (by decide) ?_
  refine lv_isub hx hb dX1_reading_10 ?_
  refine m_cpi (m_rS (As := [.int (nI b), .int 0, .int ((nI (nt x 19 0)) - 1)]) (rest := []) hcf (k_X1_isIn l g A (cwM g ad Mx x) (nI b) 0 ((nI (nt x 19 0)) - 1)) (va_cwS 3 hts (lw_S q420 q421 q35 q422) rfl rfl rfl (by decide +kernel) ⟨Nat.le_of_ble_eq_true rfl, Nat.le_of_ble_eq_true rfl⟩) hE hA hM hS rfl hl.1 rfl (Nat.le_of_ble_eq_true rfl) dX1_reading_11 ⟨Nat.le_of_ble_eq_true rfl, Nat.le_of_ble_eq_true rfl⟩) hS (fun H locs hM hS => ?_)
  refine m_topI (y := 1) (inF_cnt0 hbb hb19) ?_
  refine lv_if_eq (tgt := 30) hx hb dX1_reading_14 (by decide) (fun c9 => absurd c9 (by decide)) (fun _ => ?_)
  refine lv_iload_n hx hb dX1_reading_17 rfl (lv_at hl 3 rfl) ?_
  refine lv_iconst (v := 0) hx hb dX1_reading_18 (by decide) ?_
  refine lv_iconst (v := 4) hx hb dX1_reading_19 (by decide) ?_
  refine m_cpi (m_rS (As := [.int (nI n), .int 0, .int 4]) (rest := []) hcf (k_X1_isIn l g A (cwM g ad Mx x) (nI n) 0 4) (va_cwS 3 hts (lw_S q420 q421 q35 q422) rfl rfl rfl (by decide +kernel) ⟨Nat.le_of_ble_eq_true rfl, Nat.le_of_ble_eq_true rfl⟩) hE hA hM hS rfl hl.1 rfl (Nat.le_of_ble_eq_true rfl) dX1_reading_20 ⟨Nat.le_of_ble_eq_true rfl, Nat.le_of_ble_eq_true rfl⟩) hS (fun H locs hM hS => ?_)
  refine m_topI (y := 1) (inF_lay hn) ?_
  refine lv_if_eq (tgt := 30) hx hb dX1_reading_23 (by decide) (fun c9 => absurd c9 (by decide)) (fun _ => ?_)
  refine lv_iconst (v := 1) hx hb dX1_reading_26 (by decide) ?_
  refine lv_goto (tgt := 31) hx hb dX1_reading_27 (by decide) ?_
  refine m_cpv (m_rS (As := [.int 1]) (rest := []) hcf (k_X1_known_ok l g A (cwM g ad Mx x)) (va_cwS 1 hts (lw_S q423 q424 q35 q425) rfl rfl rfl (by decide +kernel) ⟨Nat.le_of_ble_eq_true rfl, Nat.le_of_ble_eq_true rfl⟩) hE hA hM hS rfl hl.1 rfl (Nat.le_of_ble_eq_true rfl) dX1_reading_31 ⟨Nat.le_of_ble_eq_true rfl, Nat.le_of_ble_eq_true rfl⟩) hS (fun H locs hM hS => ?_)
  refine lv_aload_n hx hb dX1_reading_34 rfl (lv_at hl 0 rfl) ?_
  refine m_get hx hb hts in_X1 hown hE hM 0 0 cw_0 (ci := 0) rfl 2 (by decide) (hts _ q181) (fun _ h9 => h9) rfl dX1_reading_35 ?_
  refine lv_iload_n hx hb dX1_reading_38 rfl (lv_at hl 1 rfl) ?_
  refine m_cpr (m_rV (As := [.int (nI b)]) (rest := []) hcf (k_J2_get l g A ad Mx x hls 1 (by omega) b (by show _ < nt x 19 0; omega)) (cwV 1 hts (lw_V q579 q580 q581 q38 q582) rfl rfl rfl (by decide +kernel) ⟨Nat.le_of_ble_eq_true rfl, Nat.le_of_ble_eq_true rfl⟩) hE hA hM hS 5 1 (cw_5 (by omega)) (ci := 8) rfl rfl hl.1 rfl (Nat.le_of_ble_eq_true rfl) dX1_reading_39 ⟨Nat.le_of_ble_eq_true rfl, Nat.le_of_ble_eq_true rfl⟩) hS (fun H locs hM hS => ?_)
  refine va_castS hx hb hown (hts _ q624) (hE.1.1 6 _ rfl).2 (m_recv hE hM ((cw_8 (by omega)) : cwM g ad Mx x 8 b = _) rfl) dX1_reading_42 ?_
  refine lv_astore (lv' := [(4, .ref (ad 8 b)), (0, .ref (ad 0 0)), (1, .int (nI b)), (2, .int a1), (3, .int (nI n))]) hx hb dX1_reading_45 hl (by decide) rfl (fun ls hl => ?_)
  refine lv_aload hx hb dX1_reading_47 (lv_at hl 0 rfl) ?_
  refine lv_iload_n hx hb dX1_reading_49 rfl (lv_at hl 3 rfl) ?_
  refine lv_aload_n hx hb dX1_reading_50 rfl (lv_at hl 1 rfl) ?_
  refine m_get hx hb hts in_X1 hown hE hM 0 0 cw_0 (ci := 0) rfl 7 (by decide) (hts _ q187) (fun _ h9 => h9) rfl dX1_reading_51 ?_
  refine m_cpi (m_rV (As := [.int a1, .int (x.1 1 0)]) (rest := []) hcf (k_X7_has l g A ad Mx x b (by omega) a1 (x.1 1 0)) (cwV 2 hts (lw_V q785 q786 q787 q62 q788) rfl rfl rfl (by decide +kernel) ⟨Nat.le_of_ble_eq_true rfl, Nat.le_of_ble_eq_true rfl⟩) hE hA hM hS 8 b (cw_8 (by omega)) (ci := 6) rfl rfl hl.1 rfl (Nat.le_of_ble_eq_true rfl) dX1_reading_54 ⟨Nat.le_of_ble_eq_true rfl, Nat.le_of_ble_eq_true rfl⟩) hS (fun H locs hM hS => ?_)
  refine m_topI (y := 0) (hw) ?_
  rw [← hQ]
  exact m_xend (m_xS (As := [.int 0]) (rest := []) hcf (k_X1_known_no l g A hlt (cwM g ad Mx x)) (va_cwS 1 hts (lw_S q423 q424 q35 q425) rfl rfl rfl (by decide +kernel) ⟨Nat.le_of_ble_eq_true rfl, Nat.le_of_ble_eq_true rfl⟩) hE hA hM hS rfl hl.1 rfl (Nat.le_of_ble_eq_true rfl) dX1_reading_57 ⟨Nat.le_of_ble_eq_true rfl, Nat.le_of_ble_eq_true rfl⟩) ht hlk hS (Nat.le_of_ble_eq_true rfl) (Nat.le_of_ble_eq_true rfl)

abbrev rm_X1_cellOf_ok : Room := { frames := 5, cells := 25, slots := 50, locals := 108 }
set_option maxHeartbeats 400000 in
theorem k_X1_cellOf_ok (l : Launch) (g : GG) (A : Nat → Prop) (ad : Nat → Nat → Nat) (Mx : MM) (x : St) (hls : lsOK x) (hho : hoOK x) (k : Nat) (hk : k < 25) (w : Nat) (hw : w < 8) (hMx : Mx 20 0 = none) : Met l yX1_cellOf (ws_ yX1_cellOf cX1_cellOf 4 (some .int)) rm_X1_cellOf_ok (va_Pc [.ref (ad 0 0), .int (nI k), .int (nI w)] (mPre g A (cwM g ad Mx x))) (pQi g A (cceF x k w) (cwM g ad Mx (cceS x k w))) 25 50 A := by
  refine m_start RX1 rfl (by decide) (Nat.le_of_ble_eq_true rfl) ?_
  intro p e s m args below meth c hcf hr hlk hnm hE hA H locs hM hS ls hl
  have hx := hcf.1
  have hb := hcf.2.1
  have hml := hcf.2.2.1
  have hown := hcf.2.2.2.1
  have hts := hcf.2.2.2.2
  have hl : lv_has ls 4 [(0, .ref (ad 0 0)), (1, .int (nI k)), (2, .int (nI w))] := hl
  generalize hQ : MQ below (pQi g A (cceF x k w) (cwM g ad Mx (cceS x k w))) args s 25 50 A = Q
  refine lv_aload_n hx hb dX1_cellOf_0 rfl (lv_at hl 0 rfl) ?_
  refine lv_iload_n hx hb dX1_cellOf_1 rfl (lv_at hl 1 rfl) ?_
  refine m_cpr (m_rV (As := [.int (nI k)]) (rest := []) hcf (k_X1_cellAt_ok l g A ad Mx x k (by omega)) (cwV 1 hts (lw_V q416 q418 qs7 q35 q419) rfl rfl rfl (by decide +kernel) ⟨Nat.le_of_ble_eq_true rfl, Nat.le_of_ble_eq_true rfl⟩) hE hA hM hS 0 0 cw_0 (ci := 0) rfl rfl hl.1 rfl (Nat.le_of_ble_eq_true rfl) dX1_cellOf_2 ⟨Nat.le_of_ble_eq_true rfl, Nat.le_of_ble_eq_true rfl⟩) hS (fun H locs hM hS => ?_)
  refine lv_astore_n (lv' := [(3, .ref (ad 2 k)), (0, .ref (ad 0 0)), (1, .int (nI k)), (2, .int (nI w))]) hx hb dX1_cellOf_5 rfl hl (by decide) rfl (fun ls hl => ?_)
  refine lv_iload_n hx hb dX1_cellOf_6 rfl (lv_at hl 3 rfl) ?_
  refine lv_iconst (v := 0) hx hb dX1_cellOf_7 (by decide) ?_
  refine lv_bipush (v := 7) hx hb dX1_cellOf_8 (by decide) ?_
  refine m_cpi (m_rS (As := [.int (nI w), .int 0, .int 7]) (rest := []) hcf (k_X1_isIn l g A (cwM g ad Mx x) (nI w) 0 7) (va_cwS 3 hts (lw_S q420 q421 q35 q422) rfl rfl rfl (by decide +kernel) ⟨Nat.le_of_ble_eq_true rfl, Nat.le_of_ble_eq_true rfl⟩) hE hA hM hS rfl hl.1 rfl (Nat.le_of_ble_eq_true rfl) dX1_cellOf_10 ⟨Nat.le_of_ble_eq_true rfl, Nat.le_of_ble_eq_true rfl⟩) hS (fun H locs hM hS => ?_)
  refine m_topI (y := 1) (inF_sev hw) ?_
  refine m_cpv (m_rS (As := [.int 1]) (rest := []) hcf (k_X1_inRange_ok l g A (cwM g ad Mx x)) (va_cwS 1 hts (lw_S q439 q440 q35 q441) rfl rfl rfl (by decide +kernel) ⟨Nat.le_of_ble_eq_true rfl, Nat.le_of_ble_eq_true rfl⟩) hE hA hM hS rfl hl.1 rfl (Nat.le_of_ble_eq_true rfl) dX1_cellOf_13 ⟨Nat.le_of_ble_eq_true rfl, Nat.le_of_ble_eq_true rfl⟩) hS (fun H locs hM hS => ?_)
  refine lv_iload_n hx hb dX1_cellOf_16 rfl (lv_at hl 3 rfl) ?_
  obtain rfl | rfl | rfl | rfl | rfl | rfl | rfl | rfl : w = 0 ∨ w = 1 ∨ w = 2 ∨ w = 3 ∨ w = 4 ∨ w = 5 ∨ w = 6 ∨ w = 7 := by omega
  · refine lv_tableIn hx hb dX1_cellOf_17 (off := 43) (tgt := 60) (by decide +kernel) (by decide +kernel) rfl (by decide) ?_
    refine lv_aload_n hx hb dX1_cellOf_60 rfl (lv_at hl 0 rfl) ?_
    refine m_get hx hb hts in_X2 hown hE hM 2 k (cw_2 (by omega)) (ci := 2) rfl 2 (by decide) (hts _ q142) (fun _ h9 => h9) rfl dX1_cellOf_61 ?_
    rw [← hQ]
    exact m_iret () hx hb hr rfl hlk (mW_eq (cceS_o x k (by decide)).symm hM) hS (by exact (cceF_0 x k).symm) (by first | decide | omega) (by first | decide | omega) dX1_cellOf_64
  · refine lv_tableIn hx hb dX1_cellOf_17 (off := 48) (tgt := 65) (by decide +kernel) (by decide +kernel) rfl (by decide) ?_
    refine lv_aload_n hx hb dX1_cellOf_65 rfl (lv_at hl 0 rfl) ?_
    refine m_get hx hb hts in_X2 hown hE hM 2 k (cw_2 (by omega)) (ci := 2) rfl 3 (by decide) (hts _ q144) (fun _ h9 => h9) rfl dX1_cellOf_66 ?_
    rw [← hQ]
    exact m_iret () hx hb hr rfl hlk (mW_eq (cceS_o x k (by decide)).symm hM) hS (by exact (cceF_1 x k).symm) (by first | decide | omega) (by first | decide | omega) dX1_cellOf_69
  · refine lv_tableIn hx hb dX1_cellOf_17 (off := 53) (tgt := 70) (by decide +kernel) (by decide +kernel) rfl (by decide) ?_
    refine lv_aload_n hx hb dX1_cellOf_70 rfl (lv_at hl 0 rfl) ?_
    refine m_get hx hb hts in_X2 hown hE hM 2 k (cw_2 (by omega)) (ci := 2) rfl 4 (by decide) (hts _ q146) (fun _ h9 => h9) rfl dX1_cellOf_71 ?_
    rw [← hQ]
    exact m_iret () hx hb hr rfl hlk (mW_eq (cceS_o x k (by decide)).symm hM) hS (by exact (cceF_2 x k).symm) (by first | decide | omega) (by first | decide | omega) dX1_cellOf_74
  · refine lv_tableIn hx hb dX1_cellOf_17 (off := 58) (tgt := 75) (by decide +kernel) (by decide +kernel) rfl (by decide) ?_
    refine lv_aload_n hx hb dX1_cellOf_75 rfl (lv_at hl 0 rfl) ?_
    refine m_get hx hb hts in_X2 hown hE hM 2 k (cw_2 (by omega)) (ci := 2) rfl 5 (by decide) (hts _ q148) (fun _ h9 => h9) rfl dX1_cellOf_76 ?_
    rw [← hQ]
    exact m_iret () hx hb hr rfl hlk (mW_eq (cceS_o x k (by decide)).symm hM) hS (by exact (cceF_3 x k).symm) (by first | decide | omega) (by first | decide | omega) dX1_cellOf_79
  · refine lv_tableIn hx hb dX1_cellOf_17 (off := 63) (tgt := 80) (by decide +kernel) (by decide +kernel) rfl (by decide) ?_
    refine lv_aload_n hx hb dX1_cellOf_80 rfl (lv_at hl 0 rfl) ?_
    refine m_get hx hb hts in_X2 hown hE hM 2 k (cw_2 (by omega)) (ci := 2) rfl 6 (by decide) (hts _ q150) (fun _ h9 => h9) rfl dX1_cellOf_81 ?_
    rw [← hQ]
    exact m_iret () hx hb hr rfl hlk (mW_eq (cceS_o x k (by decide)).symm hM) hS (by exact (cceF_4 x k).symm) (by first | decide | omega) (by first | decide | omega) dX1_cellOf_84
  · refine lv_tableIn hx hb dX1_cellOf_17 (off := 68) (tgt := 85) (by decide +kernel) (by decide +kernel) rfl (by decide) ?_
    refine lv_aload_n hx hb dX1_cellOf_85 rfl (lv_at hl 0 rfl) ?_
    refine m_get hx hb hts in_X2 hown hE hM 2 k (cw_2 (by omega)) (ci := 2) rfl 7 (by decide) (hts _ q152) (fun _ h9 => h9) rfl dX1_cellOf_86 ?_
    have J_11 : ∀ (H : Heap) (locs : List Loc) (v_9 : Int32), mW g.1 A (cwM g ad Mx x) H → va_S A s.heap H locs → ((if x.1 52 k = (-1) then (-1) else (nI (nt x 52 k))) = v_9) → W p l e rm_X1_cellOf_ok s m args below meth c H locs 0 0 Q (F0 m 107 ls [.int v_9]) := by
      intro H locs v_9 hM hS ev_10
      rw [← hQ]
      exact m_iret () hx hb hr rfl hlk (mW_eq (cceS_o x k (by decide)).symm hM) hS (by subst ev_10; exact (cceF_5 x k).symm) (by first | decide | omega) (by first | decide | omega) dX1_cellOf_107
    refine ch_ifnonnull (tgt := 96) hx hb dX1_cellOf_89 (by decide) (fun c_7 => ?_) (fun c_7 => ?_)
    · refine lv_aload_n hx hb dX1_cellOf_96 rfl (lv_at hl 1 rfl) ?_
      refine m_get hx hb hts in_X1 hown hE hM 0 0 cw_0 (ci := 0) rfl 1 (by decide) (hts _ q180) (fun _ h9 => h9) rfl dX1_cellOf_97 ?_
      refine lv_aload_n hx hb dX1_cellOf_100 rfl (lv_at hl 0 rfl) ?_
      refine m_get hx hb hts in_X2 hown hE hM 2 k (cw_2 (by omega)) (ci := 2) rfl 7 (by decide) (hts _ q152) (fun _ h9 => h9) rfl dX1_cellOf_101 ?_
      refine m_topV (w := .ref (ad 7 (nt x 52 k))) (cHou_some c_7) ?_
      refine m_cpi (m_rV (As := [.ref (ad 7 (nt x 52 k))]) (rest := []) hcf (k_J2_indexOf l g A ad Mx x hls (nt x 52 k) (hho k hk c_7) rfl) (cwV 1 hts (lw_V q821 q822 q823 q38 q824) rfl rfl rfl (by decide +kernel) ⟨Nat.le_of_ble_eq_true rfl, Nat.le_of_ble_eq_true rfl⟩) hE hA hM hS 5 0 (cw_5 (by omega)) (ci := 8) rfl rfl hl.1 rfl (Nat.le_of_ble_eq_true rfl) dX1_cellOf_104 ⟨Nat.le_of_ble_eq_true rfl, Nat.le_of_ble_eq_true rfl⟩) hS (fun H locs hM hS => ?_)
      exact J_11 H locs _ hM hS (by first | (rw [if_neg c_7]) | rfl | (simp only [c_7, if_true, if_false, ite_true, ite_false, not_false_eq_true, reduceIte]))
    · refine lv_iconst (v := (-1)) hx hb dX1_cellOf_92 (by decide) ?_
      refine lv_goto (tgt := 107) hx hb dX1_cellOf_93 (by decide) ?_
      exact J_11 H locs _ hM hS (by first | (rw [if_pos c_7]) | rfl | (simp only [c_7, if_true, if_false, ite_true, ite_false, not_false_eq_true, reduceIte]))
  · refine lv_tableIn hx hb dX1_cellOf_17 (off := 91) (tgt := 108) (by decide +kernel) (by decide +kernel) rfl (by decide) ?_
    refine lv_aload_n hx hb dX1_cellOf_108 rfl (lv_at hl 1 rfl) ?_
    refine m_cpv (m_rV (As := []) (rest := []) hcf (k_X1_forget l g A ad Mx x ) (cwV 0 hts (lw_V q219 q221 qs1 q35 q222) rfl rfl rfl (by decide +kernel) ⟨Nat.le_of_ble_eq_true rfl, Nat.le_of_ble_eq_true rfl⟩) hE hA hM hS 0 0 cw_0 (ci := 0) rfl rfl hl.1 rfl (Nat.le_of_ble_eq_true rfl) dX1_cellOf_109 ⟨Nat.le_of_ble_eq_true rfl, Nat.le_of_ble_eq_true rfl⟩) hS (fun H locs hM hS => ?_)
    obtain ⟨x_12, ex_13⟩ : ∃ z : St, fgtF x 25 = z := ⟨_, rfl⟩
    rw [ex_13] at hM
    have h051 : x_12.1 51 k = 0 := by rw [← ex_13]; exact fgtF_51 x 25 k (by omega)
    refine lv_aload_n hx hb dX1_cellOf_112 rfl (lv_at hl 0 rfl) ?_
    refine m_get hx hb hts in_X2 hown hE hM 2 k (cw_2 (by omega)) (ci := 2) rfl 3 (by decide) (hts _ q144) (fun _ h9 => h9) rfl dX1_cellOf_113 ?_
    refine lv_if_ne (tgt := 123) hx hb dX1_cellOf_116 (by decide) (fun c_15 => ?_) (fun c_15 => ?_)
    · refine lv_aload_n hx hb dX1_cellOf_123 rfl (lv_at hl 1 rfl) ?_
      refine lv_iload_n hx hb dX1_cellOf_124 rfl (lv_at hl 2 rfl) ?_
      refine m_cpi (m_rV (As := [.int (nI k)]) (rest := []) hcf (k_X1_spread l g A ad Mx x_12 k (by omega) h051 hMx) (cwV 1 hts (lw_V q223 q225 qs2 q35 q226) rfl rfl rfl (by decide +kernel) ⟨Nat.le_of_ble_eq_true rfl, Nat.le_of_ble_eq_true rfl⟩) hE hA hM hS 0 0 cw_0 (ci := 0) rfl rfl hl.1 rfl (Nat.le_of_ble_eq_true rfl) dX1_cellOf_125 ⟨Nat.le_of_ble_eq_true rfl, Nat.le_of_ble_eq_true rfl⟩) hS (fun H locs hM hS => ?_)
      obtain ⟨q_17, eq_18⟩ : ∃ z : St × Nat, spF x_12 k = z := ⟨_, rfl⟩
      rw [eq_18] at hM
      refine m_topI (y := nI q_17.2) (by rw [eq_18]) ?_
      have hI := spF_I (x := x_12) (k := k) (by omega) h051
      rw [eq_18] at hI
      have h25 := hI.le
      have hpi := hI.2
      rw [← hQ]
      exact m_iret () hx hb hr rfl hlk (mW_eq ((cl6_1 ex_13 eq_18 c_15).1.trans (cceS_6 x k).symm) hM) hS ((cl6_1 ex_13 eq_18 c_15).2.trans (cceF_6 x k).symm) (by first | decide | omega) (by first | decide | omega) dX1_cellOf_128
    · refine lv_iconst (v := 0) hx hb dX1_cellOf_119 (by decide) ?_
      refine lv_goto (tgt := 128) hx hb dX1_cellOf_120 (by decide) ?_
      rw [← hQ]
      exact m_iret () hx hb hr rfl hlk (mW_eq ((cl6_0 ex_13 c_15).1.trans (cceS_6 x k).symm) hM) hS ((cl6_0 ex_13 c_15).2.trans (cceF_6 x k).symm) (by first | decide | omega) (by first | decide | omega) dX1_cellOf_128
  · refine lv_tableOut hx hb dX1_cellOf_17 (tgt := 129) (by decide +kernel) (by decide) ?_
    refine lv_aload_n hx hb dX1_cellOf_129 rfl (lv_at hl 0 rfl) ?_
    refine m_cpi (m_rV (As := []) (rest := []) hcf (k_X2_thawed l g A ad Mx x k (by omega)) (cwV 0 hts (lw_V q859 q860 q861 q39 q862) rfl rfl rfl (by decide +kernel) ⟨Nat.le_of_ble_eq_true rfl, Nat.le_of_ble_eq_true rfl⟩) hE hA hM hS 2 k (cw_2 (by omega)) (ci := 2) rfl rfl hl.1 rfl (Nat.le_of_ble_eq_true rfl) dX1_cellOf_130 ⟨Nat.le_of_ble_eq_true rfl, Nat.le_of_ble_eq_true rfl⟩) hS (fun H locs hM hS => ?_)
    rw [← hQ]
    exact m_iret () hx hb hr rfl hlk (mW_eq (cceS_o x k (by decide)).symm hM) hS (by exact (cceF_7 x k).symm) (by first | decide | omega) (by first | decide | omega) dX1_cellOf_133

abbrev rm_X1_cellOf_n1 : Room := { frames := 8, cells := 1, slots := 6, locals := 123 }
set_option maxHeartbeats 400000 in
theorem k_X1_cellOf_n1 (l : Launch) (g : GG) (A : Nat → Prop) (hlt : l.stackTraces = false) (ad : Nat → Nat → Nat) (Mx : MM) (x : St) (a0 a1 : Int32) (h0 : inF a0 0 24 = 0) : vx_Met l yX1_cellOf (ws_ yX1_cellOf cX1_cellOf 4 (some .int)) rm_X1_cellOf_n1 (va_Pc [.ref (ad 0 0), .int a0, .int a1] (mPre g A (cwM g ad Mx x))) pNo (mX g A "java/lang/IndexOutOfBoundsException" (cwM g ad Mx x)) 1 6 A := by
  refine m_startX RX1 rfl (by decide) (Nat.le_of_ble_eq_true rfl) ?_
  intro p e s m args below meth c hcf hr hlk hnm hE hA ht H locs hM hS ls hl
  have hx := hcf.1
  have hb := hcf.2.1
  have hml := hcf.2.2.1
  have hown := hcf.2.2.2.1
  have hts := hcf.2.2.2.2
  have hl : lv_has ls 4 [(0, .ref (ad 0 0)), (1, .int a0), (2, .int a1)] := hl
  generalize hQ : vx_MQ below pNo (mX g A "java/lang/IndexOutOfBoundsException" (cwM g ad Mx x)) args s 1 6 A = Q
  refine lv_aload_n hx hb dX1_cellOf_0 rfl (lv_at hl 0 rfl) ?_
  refine lv_iload_n hx hb dX1_cellOf_1 rfl (lv_at hl 1 rfl) ?_
  rw [← hQ]
  exact m_xend (m_xV (As := [.int a0]) (rest := []) hcf (k_X1_cellAt_no l g A hlt ad Mx x a0 h0) (cwV 1 hts (lw_V q416 q418 qs7 q35 q419) rfl rfl rfl (by decide +kernel) ⟨Nat.le_of_ble_eq_true rfl, Nat.le_of_ble_eq_true rfl⟩) hE hA hM hS 0 0 cw_0 (ci := 0) rfl rfl hl.1 rfl (Nat.le_of_ble_eq_true rfl) dX1_cellOf_2 ⟨Nat.le_of_ble_eq_true rfl, Nat.le_of_ble_eq_true rfl⟩) ht hlk hS (Nat.le_of_ble_eq_true rfl) (Nat.le_of_ble_eq_true rfl)

abbrev rm_X1_cellOf_n2 : Room := { frames := 7, cells := 1, slots := 6, locals := 102 }
set_option maxHeartbeats 400000 in
theorem k_X1_cellOf_n2 (l : Launch) (g : GG) (A : Nat → Prop) (hlt : l.stackTraces = false) (ad : Nat → Nat → Nat) (Mx : MM) (x : St) (k : Nat) (hk : k < 25) (a1 : Int32) (hw : inF a1 0 7 = 0) : vx_Met l yX1_cellOf (ws_ yX1_cellOf cX1_cellOf 4 (some .int)) rm_X1_cellOf_n2 (va_Pc [.ref (ad 0 0), .int (nI k), .int a1] (mPre g A (cwM g ad Mx x))) pNo (mX g A "java/lang/IllegalArgumentException" (cwM g ad Mx x)) 1 6 A := by
  refine m_startX RX1 rfl (by decide) (Nat.le_of_ble_eq_true rfl) ?_
  intro p e s m args below meth c hcf hr hlk hnm hE hA ht H locs hM hS ls hl
  have hx := hcf.1
  have hb := hcf.2.1
  have hml := hcf.2.2.1
  have hown := hcf.2.2.2.1
  have hts := hcf.2.2.2.2
  have hl : lv_has ls 4 [(0, .ref (ad 0 0)), (1, .int (nI k)), (2, .int a1)] := hl
  generalize hQ : vx_MQ below pNo (mX g A "java/lang/IllegalArgumentException" (cwM g ad Mx x)) args s 1 6 A = Q
  refine lv_aload_n hx hb dX1_cellOf_0 rfl (lv_at hl 0 rfl) ?_
  refine lv_iload_n hx hb dX1_cellOf_1 rfl (lv_at hl 1 rfl) ?_
  refine m_cpr (m_rV (As := [.int (nI k)]) (rest := []) hcf (k_X1_cellAt_ok l g A ad Mx x k (by omega)) (cwV 1 hts (lw_V q416 q418 qs7 q35 q419) rfl rfl rfl (by decide +kernel) ⟨Nat.le_of_ble_eq_true rfl, Nat.le_of_ble_eq_true rfl⟩) hE hA hM hS 0 0 cw_0 (ci := 0) rfl rfl hl.1 rfl (Nat.le_of_ble_eq_true rfl) dX1_cellOf_2 ⟨Nat.le_of_ble_eq_true rfl, Nat.le_of_ble_eq_true rfl⟩) hS (fun H locs hM hS => ?_)
  refine lv_astore_n (lv' := [(3, .ref (ad 2 k)), (0, .ref (ad 0 0)), (1, .int (nI k)), (2, .int a1)]) hx hb dX1_cellOf_5 rfl hl (by decide) rfl (fun ls hl => ?_)
  refine lv_iload_n hx hb dX1_cellOf_6 rfl (lv_at hl 3 rfl) ?_
  refine lv_iconst (v := 0) hx hb dX1_cellOf_7 (by decide) ?_
  refine lv_bipush (v := 7) hx hb dX1_cellOf_8 (by decide) ?_
  refine m_cpi (m_rS (As := [.int a1, .int 0, .int 7]) (rest := []) hcf (k_X1_isIn l g A (cwM g ad Mx x) a1 0 7) (va_cwS 3 hts (lw_S q420 q421 q35 q422) rfl rfl rfl (by decide +kernel) ⟨Nat.le_of_ble_eq_true rfl, Nat.le_of_ble_eq_true rfl⟩) hE hA hM hS rfl hl.1 rfl (Nat.le_of_ble_eq_true rfl) dX1_cellOf_10 ⟨Nat.le_of_ble_eq_true rfl, Nat.le_of_ble_eq_true rfl⟩) hS (fun H locs hM hS => ?_)
  refine m_topI (y := 0) (hw) ?_
  rw [← hQ]
  exact m_xend (m_xS (As := [.int 0]) (rest := []) hcf (k_X1_inRange_no l g A hlt (cwM g ad Mx x)) (va_cwS 1 hts (lw_S q439 q440 q35 q441) rfl rfl rfl (by decide +kernel) ⟨Nat.le_of_ble_eq_true rfl, Nat.le_of_ble_eq_true rfl⟩) hE hA hM hS rfl hl.1 rfl (Nat.le_of_ble_eq_true rfl) dX1_cellOf_13 ⟨Nat.le_of_ble_eq_true rfl, Nat.le_of_ble_eq_true rfl⟩) ht hlk hS (Nat.le_of_ble_eq_true rfl) (Nat.le_of_ble_eq_true rfl)

abbrev rm_X1_neighbour_ok : Room := { frames := 4, cells := 1, slots := 2, locals := 83 }
set_option maxHeartbeats 400000 in
theorem k_X1_neighbour_ok (l : Launch) (g : GG) (A : Nat → Prop) (ad : Nat → Nat → Nat) (Mx : MM) (x : St) (k : Nat) (hk : k < 25) (a1 : Int32) (hw : (if a1 < 0 then 0 else 1 : Int32) = 1) (hMx : Mx 20 0 = none) : Met l yX1_neighbour (ws_ yX1_neighbour cX1_neighbour 6 (some .int)) rm_X1_neighbour_ok (va_Pc [.ref (ad 0 0), .int (nI k), .int a1] (mPre g A (cwM g ad Mx x))) (pQi g A (cneF k a1) (cwM g ad Mx x)) 1 2 A := by
  refine m_start RX1 rfl (by decide) (Nat.le_of_ble_eq_true rfl) ?_
  intro p e s m args below meth c hcf hr hlk hnm hE hA H locs hM hS ls hl
  have hx := hcf.1
  have hb := hcf.2.1
  have hml := hcf.2.2.1
  have hown := hcf.2.2.2.1
  have hts := hcf.2.2.2.2
  have hl : lv_has ls 6 [(0, .ref (ad 0 0)), (1, .int (nI k)), (2, .int a1)] := hl
  generalize hQ : MQ below (pQi g A (cneF k a1) (cwM g ad Mx x)) args s 1 2 A = Q
  refine lv_aload_n hx hb dX1_neighbour_0 rfl (lv_at hl 0 rfl) ?_
  refine lv_iload_n hx hb dX1_neighbour_1 rfl (lv_at hl 1 rfl) ?_
  refine m_cpr (m_rV (As := [.int (nI k)]) (rest := []) hcf (k_X1_cellAt_ok l g A ad Mx x k (by omega)) (cwV 1 hts (lw_V q416 q418 qs7 q35 q419) rfl rfl rfl (by decide +kernel) ⟨Nat.le_of_ble_eq_true rfl, Nat.le_of_ble_eq_true rfl⟩) hE hA hM hS 0 0 cw_0 (ci := 0) rfl rfl hl.1 rfl (Nat.le_of_ble_eq_true rfl) dX1_neighbour_2 ⟨Nat.le_of_ble_eq_true rfl, Nat.le_of_ble_eq_true rfl⟩) hS (fun H locs hM hS => ?_)
  refine lv_pop hx hb dX1_neighbour_5 rfl ?_
  refine lv_iload_n hx hb dX1_neighbour_6 rfl (lv_at hl 2 rfl) ?_
  have J_5 : ∀ (v_3 : Int32), ((if a1 < 0 then 0 else 1) = v_3) → W p l e rm_X1_neighbour_ok s m args below meth c H locs 0 0 Q (F0 m 15 ls [.int v_3]) := by
    intro v_3 ev_4
    refine m_topI (y := 1) ((by subst ev_4; exact hw)) ?_
    refine m_cpv (m_rS (As := [.int 1]) (rest := []) hcf (k_X1_known_ok l g A (cwM g ad Mx x)) (va_cwS 1 hts (lw_S q423 q424 q35 q425) rfl rfl rfl (by decide +kernel) ⟨Nat.le_of_ble_eq_true rfl, Nat.le_of_ble_eq_true rfl⟩) hE hA hM hS rfl hl.1 rfl (Nat.le_of_ble_eq_true rfl) dX1_neighbour_15 ⟨Nat.le_of_ble_eq_true rfl, Nat.le_of_ble_eq_true rfl⟩) hS (fun H locs hM hS => ?_)
    refine lv_iload_n hx hb dX1_neighbour_18 rfl (lv_at hl 2 rfl) ?_
    refine lv_istore_n (lv' := [(3, .int a1), (0, .ref (ad 0 0)), (1, .int (nI k)), (2, .int a1)]) hx hb dX1_neighbour_19 rfl hl (by decide) rfl (fun ls hl => ?_)
    refine m_new hx hb hts in_X5 tyX5 tyX5_ok hown (hts _ q227) (hts _ q228) (hts _ q51) hE hM hS hA 20 0 (by rw [cw_ext (by decide)]; exact hMx) (ci := 4) rfl (fs := [.int 0, .int 0]) ar_fs (Nat.le_of_ble_eq_true rfl) (Nat.le_of_ble_eq_true rfl) dX1_neighbour_20 (fun q_8 H h_q_8 hM hS => ?_)
    have hM := cwUp (by decide) hM
    refine lv_dup hx hb dX1_neighbour_23 rfl ?_
    refine lv_iload_n hx hb dX1_neighbour_24 rfl (lv_at hl 2 rfl) ?_
    refine m_cpv (m_rI (As := [.int (nI k)]) (rest := [.ref q_8]) hcf (k_X5_init l g A (cwM g ad Mx x) q_8 k (by omega)) (cwI 1 hts (lw_meth q231) rfl rfl rfl (hts _ q51) (hts _ q229) (hts _ q230) rfl (by decide +kernel) ⟨Nat.le_of_ble_eq_true rfl, Nat.le_of_ble_eq_true rfl⟩) hE hA (upCw (by decide) hM) hS rfl hl.1 rfl (Nat.le_of_ble_eq_true rfl) dX1_neighbour_25 ⟨Nat.le_of_ble_eq_true rfl, Nat.le_of_ble_eq_true rfl⟩) hS (fun H locs hM hS => ?_)
    have hM := arCw hM
    refine lv_astore (lv' := [(4, .ref q_8), (3, .int a1), (0, .ref (ad 0 0)), (1, .int (nI k)), (2, .int a1)]) hx hb dX1_neighbour_28 hl (by decide) rfl (fun ls hl => ?_)
    obtain ⟨R_12, hR_12⟩ : ∃ y : (Int32 × Int32), nbF k neS 4 (skpN k 4 0) (a1, -1) = y := ⟨_, rfl⟩
    have X_12 : R_12.2 = (-1) → ∀ (H : Heap) (locs : List Loc) (ls : Array Slot), mW g.1 A (cwM g ad (mAr Mx q_8 k 4) x) H → va_S A s.heap H locs → lv_has ls 6 [(0, .ref (ad 0 0)), (1, .int (nI k)), (3, .int R_12.1), (4, .ref q_8)] → W p l e rm_X1_neighbour_ok s m args below meth c H locs 1 2 Q (F0 m 30 ls []) := by
      intro hi0_12 H locs ls hM hS hl
      refine lv_aload hx hb dX1_neighbour_30 (lv_at hl 3 rfl) ?_
      refine m_cFi (m_rF (As := []) (rest := []) hcf (k_X5_hasNext l g A (cwM g ad Mx x) q_8 k 4) (va_cwF 0 hts (lw_F q253 q257 q259 q51 q261) rfl rfl rfl hE.X.1 (by decide +kernel) ⟨Nat.le_of_ble_eq_true rfl, Nat.le_of_ble_eq_true rfl⟩) hE hA (cwAr hM) hS 20 0 (mUp_self _ _ _ _) (ci := 4) rfl rfl hl.1 rfl (Nat.le_of_ble_eq_true rfl) dX1_neighbour_32 ⟨Nat.le_of_ble_eq_true rfl, Nat.le_of_ble_eq_true rfl⟩) hS (fun H locs hM hS => ?_)
      have hM := arCw hM
      refine m_topI (y := 0) (if_pos (by decide)) ?_
      refine lv_if_eq (tgt := 68) hx hb dX1_neighbour_37 (by decide) (fun _ => ?_) (fun c9 => absurd (by decide) c9)
      have hM := cw_down (k := 20) (n := 0) (by decide) hMx (cwAr hM)
      refine lv_iconst (v := (-1)) hx hb dX1_neighbour_68 (by decide) ?_
      rw [← hQ]
      exact m_iret () hx hb hr rfl hlk hM hS (ne_end hi0_12 hR_12) (by first | decide | omega) (by first | decide | omega) dX1_neighbour_69
    have L_12 : ∀ (f n_12 : Nat) (w_12 : (Int32 × Int32)), n_12 ≤ 4 → 4 ≤ n_12 + f → (n_12 < 4 → ¬ onR k n_12 = 0) → nbF k neS f n_12 w_12 = R_12 → w_12.2 = (-1) → ∀ (H : Heap) (locs : List Loc) (ls : Array Slot), mW g.1 A (cwM g ad (mAr Mx q_8 k n_12) x) H → va_S A s.heap H locs → lv_has ls 6 [(0, .ref (ad 0 0)), (1, .int (nI k)), (3, .int w_12.1), (4, .ref q_8)] → W p l e rm_X1_neighbour_ok s m args below meth c H locs 1 2 Q (F0 m 30 ls []) := by
      intro f
      induction f with
      | zero =>
        intro n_12 w_12 h4 hf hon he hi0_12 H locs ls hM hS hl
        have h5 : n_12 = 4 := by omega
        subst h5
        have he : w_12 = R_12 := he
        subst w_12
        exact X_12 hi0_12 H locs ls hM hS hl
      | succ f ih =>
        intro n_12 w_12 h4 hf hon he hi0_12 H locs ls hM hS hl
        by_cases h5 : n_12 = 4
        · subst h5
          have he : w_12 = R_12 := (nbF_4 _ _ _ _).symm.trans he
          subst w_12
          exact X_12 hi0_12 H locs ls hM hS hl
        have hn4 : n_12 < 4 := by omega
        have hon := hon hn4
        have he := (nbF_s hn4 _ _ _).symm.trans he
        obtain ⟨hb25, hbn⟩ := nbN_ok hk hn4 hon
        refine lv_aload hx hb dX1_neighbour_30 (lv_at hl 3 rfl) ?_
        refine m_cFi (m_rF (As := []) (rest := []) hcf (k_X5_hasNext l g A (cwM g ad Mx x) q_8 k n_12) (va_cwF 0 hts (lw_F q253 q257 q259 q51 q261) rfl rfl rfl hE.X.1 (by decide +kernel) ⟨Nat.le_of_ble_eq_true rfl, Nat.le_of_ble_eq_true rfl⟩) hE hA (cwAr hM) hS 20 0 (mUp_self _ _ _ _) (ci := 4) rfl rfl hl.1 rfl (Nat.le_of_ble_eq_true rfl) dX1_neighbour_32 ⟨Nat.le_of_ble_eq_true rfl, Nat.le_of_ble_eq_true rfl⟩) hS (fun H locs hM hS => ?_)
        have hM := arCw hM
        refine m_topI (y := 1) (if_neg (nI_ge (b := 4) (by omega) (by omega))) ?_
        refine lv_if_eq (tgt := 68) hx hb dX1_neighbour_37 (by decide) (fun c9 => absurd c9 (by decide)) (fun _ => ?_)
        refine lv_aload hx hb dX1_neighbour_40 (lv_at hl 3 rfl) ?_
        refine m_cFr (m_rF (As := []) (rest := []) hcf (k_X5_next l g A (cwM g ad Mx x) q_8 k n_12 (by omega) hn4 (nbN k n_12) hb25 hbn) (va_cwF 0 hts (lw_F q263 q266 q268 q51 q270) rfl rfl rfl hE.X.2.1 (by decide +kernel) ⟨Nat.le_of_ble_eq_true rfl, Nat.le_of_ble_eq_true rfl⟩) hE hA (cwAr hM) hS 20 0 (mUp_self _ _ _ _) (ci := 4) rfl rfl hl.1 rfl (Nat.le_of_ble_eq_true rfl) dX1_neighbour_42 ⟨Nat.le_of_ble_eq_true rfl, Nat.le_of_ble_eq_true rfl⟩) hS (fun H locs hM hS => ?_)
        have hM := arCw hM
        refine va_castS hx hb hown (hts _ q362) (hE.1.1 9 _ rfl).2 (m_box hE hS (by omega)) dX1_neighbour_47 ?_
        refine m_cpi (m_rVa (As := []) (rest := []) hcf (k_J14_intValue l g A (cwM g ad (mAr Mx q_8 k (skpN k 4 (n_12 + 1))) x) (nbN k n_12 + 128) (by omega)) (cwV 0 hts (lw_V q363 q364 q365 q54 q366) rfl rfl rfl (by decide +kernel) ⟨Nat.le_of_ble_eq_true rfl, Nat.le_of_ble_eq_true rfl⟩) hE hA hM hS (m_box hE hS (by omega)) rfl hl.1 rfl (Nat.le_of_ble_eq_true rfl) dX1_neighbour_50 ⟨Nat.le_of_ble_eq_true rfl, Nat.le_of_ble_eq_true rfl⟩) hS (fun H locs hM hS => ?_)
        refine m_topI (y := nI (nbN k n_12)) (vb_nI hb25) ?_
        refine lv_istore (lv' := [(5, .int (nI (nbN k n_12))), (0, .ref (ad 0 0)), (1, .int (nI k)), (3, .int w_12.1), (4, .ref q_8)]) hx hb dX1_neighbour_53 hl (by decide) rfl (fun ls hl => ?_)
        refine lv_iload_n hx hb dX1_neighbour_55 rfl (lv_at hl 3 rfl) ?_
        refine lv_if_ne (tgt := 62) hx hb dX1_neighbour_56 (by decide) (fun c_21 => ?_) (fun c_21 => ?_)
        · obtain ⟨v_22, ev_23⟩ : ∃ y : Int32, w_12.1 + (-1) = y := ⟨_, rfl⟩
          refine lv_iinc (v := v_22) (lv' := [(3, .int v_22), (5, .int (nI (nbN k n_12))), (0, .ref (ad 0 0)), (1, .int (nI k)), (4, .ref q_8)]) hx hb dX1_neighbour_62 hl (k := 3) rfl ((by rw [← ev_23]; rfl)) (by decide) rfl (fun ls hl => ?_)
          refine lv_goto (tgt := 30) hx hb dX1_neighbour_65 (by decide) ?_
          have hq9 : neS (nbN k n_12) w_12 = (v_22, (-1)) := by unfold neS; rw [if_pos hi0_12, if_neg c_21, ev_23]
          exact ih (skpN k 4 (n_12 + 1)) (v_22, (-1)) (skpN_le _ _ (by omega)).2 (by have := (skpN_le (k := k) 4 (n_12 + 1) (by omega)).1; omega) (skpN_on _ _ (by omega) (by omega)) (by subst ev_23; rw [← hq9]; exact he) rfl H locs ls hM hS (lv_sub hl [2, 3, 0, 4] (by rfl))
        · have hM := cw_down (k := 20) (n := 0) (by decide) hMx (cwAr hM)
          refine lv_iload hx hb dX1_neighbour_59 (lv_at hl 0 rfl) ?_
          rw [← hQ]
          exact m_iret () hx hb hr rfl hlk hM hS (ne_ret hb25 hi0_12 c_21 he hR_12) (by first | decide | omega) (by first | decide | omega) dX1_neighbour_61
    exact L_12 4 (skpN k 4 0) (a1, -1) (skpN_le _ _ (by omega)).2 (by omega) (skpN_on _ _ (by omega) (by omega)) hR_12 rfl H locs ls hM hS (lv_sub hl [2, 3, 1, 0] rfl)
  refine lv_if_lt (tgt := 14) hx hb dX1_neighbour_7 (by decide) (fun c_2 => ?_) (fun c_2 => ?_)
  · refine lv_iconst (v := 0) hx hb dX1_neighbour_14 (by decide) ?_
    exact J_5 _ (by first | (rw [if_pos c_2]) | rfl | (simp only [c_2, if_true, if_false, ite_true, ite_false, not_false_eq_true, reduceIte]))
  · refine lv_iconst (v := 1) hx hb dX1_neighbour_10 (by decide) ?_
    refine lv_goto (tgt := 15) hx hb dX1_neighbour_11 (by decide) ?_
    exact J_5 _ (by first | (rw [if_neg c_2]) | rfl | (simp only [c_2, if_true, if_false, ite_true, ite_false, not_false_eq_true, reduceIte]))

abbrev rm_X1_neighbour_n1 : Room := { frames := 8, cells := 1, slots := 6, locals := 123 }
set_option maxHeartbeats 400000 in
theorem k_X1_neighbour_n1 (l : Launch) (g : GG) (A : Nat → Prop) (hlt : l.stackTraces = false) (ad : Nat → Nat → Nat) (Mx : MM) (x : St) (a0 a1 : Int32) (h0 : inF a0 0 24 = 0) : vx_Met l yX1_neighbour (ws_ yX1_neighbour cX1_neighbour 6 (some .int)) rm_X1_neighbour_n1 (va_Pc [.ref (ad 0 0), .int a0, .int a1] (mPre g A (cwM g ad Mx x))) pNo (mX g A "java/lang/IndexOutOfBoundsException" (cwM g ad Mx x)) 1 6 A := by
  refine m_startX RX1 rfl (by decide) (Nat.le_of_ble_eq_true rfl) ?_
  intro p e s m args below meth c hcf hr hlk hnm hE hA ht H locs hM hS ls hl
  have hx := hcf.1
  have hb := hcf.2.1
  have hml := hcf.2.2.1
  have hown := hcf.2.2.2.1
  have hts := hcf.2.2.2.2
  have hl : lv_has ls 6 [(0, .ref (ad 0 0)), (1, .int a0), (2, .int a1)] := hl
  generalize hQ : vx_MQ below pNo (mX g A "java/lang/IndexOutOfBoundsException" (cwM g ad Mx x)) args s 1 6 A = Q
  refine lv_aload_n hx hb dX1_neighbour_0 rfl (lv_at hl 0 rfl) ?_
  refine lv_iload_n hx hb dX1_neighbour_1 rfl (lv_at hl 1 rfl) ?_
  rw [← hQ]
  exact m_xend (m_xV (As := [.int a0]) (rest := []) hcf (k_X1_cellAt_no l g A hlt ad Mx x a0 h0) (cwV 1 hts (lw_V q416 q418 qs7 q35 q419) rfl rfl rfl (by decide +kernel) ⟨Nat.le_of_ble_eq_true rfl, Nat.le_of_ble_eq_true rfl⟩) hE hA hM hS 0 0 cw_0 (ci := 0) rfl rfl hl.1 rfl (Nat.le_of_ble_eq_true rfl) dX1_neighbour_2 ⟨Nat.le_of_ble_eq_true rfl, Nat.le_of_ble_eq_true rfl⟩) ht hlk hS (Nat.le_of_ble_eq_true rfl) (Nat.le_of_ble_eq_true rfl)

abbrev rm_X1_neighbour_n2 : Room := { frames := 7, cells := 1, slots := 6, locals := 102 }
set_option maxHeartbeats 400000 in
theorem k_X1_neighbour_n2 (l : Launch) (g : GG) (A : Nat → Prop) (hlt : l.stackTraces = false) (ad : Nat → Nat → Nat) (Mx : MM) (x : St) (k : Nat) (hk : k < 25) (a1 : Int32) (hw : (if a1 < 0 then 0 else 1 : Int32) = 0) : vx_Met l yX1_neighbour (ws_ yX1_neighbour cX1_neighbour 6 (some .int)) rm_X1_neighbour_n2 (va_Pc [.ref (ad 0 0), .int (nI k), .int a1] (mPre g A (cwM g ad Mx x))) pNo (mX g A "java/lang/IndexOutOfBoundsException" (cwM g ad Mx x)) 1 6 A := by
  refine m_startX RX1 rfl (by decide) (Nat.le_of_ble_eq_true rfl) ?_
  intro p e s m args below meth c hcf hr hlk hnm hE hA ht H locs hM hS ls hl
  have hx := hcf.1
  have hb := hcf.2.1
  have hml := hcf.2.2.1
  have hown := hcf.2.2.2.1
  have hts := hcf.2.2.2.2
  have hl : lv_has ls 6 [(0, .ref (ad 0 0)), (1, .int (nI k)), (2, .int a1)] := hl
  generalize hQ : vx_MQ below pNo (mX g A "java/lang/IndexOutOfBoundsException" (cwM g ad Mx x)) args s 1 6 A = Q
  refine lv_aload_n hx hb dX1_neighbour_0 rfl (lv_at hl 0 rfl) ?_
  refine lv_iload_n hx hb dX1_neighbour_1 rfl (lv_at hl 1 rfl) ?_
  refine m_cpr (m_rV (As := [.int (nI k)]) (rest := []) hcf (k_X1_cellAt_ok l g A ad Mx x k (by omega)) (cwV 1 hts (lw_V q416 q418 qs7 q35 q419) rfl rfl rfl (by decide +kernel) ⟨Nat.le_of_ble_eq_true rfl, Nat.le_of_ble_eq_true rfl⟩) hE hA hM hS 0 0 cw_0 (ci := 0) rfl rfl hl.1 rfl (Nat.le_of_ble_eq_true rfl) dX1_neighbour_2 ⟨Nat.le_of_ble_eq_true rfl, Nat.le_of_ble_eq_true rfl⟩) hS (fun H locs hM hS => ?_)
  refine lv_pop hx hb dX1_neighbour_5 rfl ?_
  refine lv_iload_n hx hb dX1_neighbour_6 rfl (lv_at hl 2 rfl) ?_
  have J_5 : ∀ (v_3 : Int32), ((if a1 < 0 then 0 else 1) = v_3) → W p l e rm_X1_neighbour_n2 s m args below meth c H locs 0 0 Q (F0 m 15 ls [.int v_3]) := by
    intro v_3 ev_4
    refine m_topI (y := 0) ((by subst ev_4; exact hw)) ?_
    rw [← hQ]
    exact m_xend (m_xS (As := [.int 0]) (rest := []) hcf (k_X1_known_no l g A hlt (cwM g ad Mx x)) (va_cwS 1 hts (lw_S q423 q424 q35 q425) rfl rfl rfl (by decide +kernel) ⟨Nat.le_of_ble_eq_true rfl, Nat.le_of_ble_eq_true rfl⟩) hE hA hM hS rfl hl.1 rfl (Nat.le_of_ble_eq_true rfl) dX1_neighbour_15 ⟨Nat.le_of_ble_eq_true rfl, Nat.le_of_ble_eq_true rfl⟩) ht hlk hS (Nat.le_of_ble_eq_true rfl) (Nat.le_of_ble_eq_true rfl)
  refine lv_if_lt (tgt := 14) hx hb dX1_neighbour_7 (by decide) (fun c_2 => ?_) (fun c_2 => ?_)
  · refine lv_iconst (v := 0) hx hb dX1_neighbour_14 (by decide) ?_
    exact J_5 _ (by first | (rw [if_pos c_2]) | rfl | (simp only [c_2, if_true, if_false, ite_true, ite_false, not_false_eq_true, reduceIte]))
  · refine lv_iconst (v := 1) hx hb dX1_neighbour_10 (by decide) ?_
    refine lv_goto (tgt := 15) hx hb dX1_neighbour_11 (by decide) ?_
    exact J_5 _ (by first | (rw [if_neg c_2]) | rfl | (simp only [c_2, if_true, if_false, ite_true, ite_false, not_false_eq_true, reduceIte]))

abbrev rm_X1_inLand : Room := { frames := 0, cells := 0, slots := 0, locals := 0 }
set_option maxHeartbeats 400000 in
theorem k_X1_inLand (l : Launch) (g : GG) (A : Nat → Prop) (ad : Nat → Nat → Nat) (Mx : MM) (x : St) (a0 : Int32) : Met l yX1_inLand (ws_ yX1_inLand cX1_inLand 12 (some .long)) rm_X1_inLand (va_Pc [.ref (ad 0 0), .int a0] (mPre g A (cwM g ad Mx x))) (pQl g A (cilF x a0) (cwM g ad Mx x)) 0 0 A := by
  refine m_start RX1 rfl (by decide) (Nat.le_of_ble_eq_true rfl) ?_
  intro p e s m args below meth c hcf hr hlk hnm hE hA H locs hM hS ls hl
  have hx := hcf.1
  have hb := hcf.2.1
  have hml := hcf.2.2.1
  have hown := hcf.2.2.2.1
  have hts := hcf.2.2.2.2
  have hl : lv_has ls 12 [(0, .ref (ad 0 0)), (1, .int a0)] := hl
  generalize hQ : MQ below (pQl g A (cilF x a0) (cwM g ad Mx x)) args s 0 0 A = Q
  refine lv_lconst (v := 0) hx hb dX1_inLand_0 (by decide) ?_
  refine lv_lstore_n (lv' := [(2, .long 0), (0, .ref (ad 0 0)), (1, .int a0)]) hx hb dX1_inLand_1 rfl hl (by decide) rfl (fun ls hl => ?_)
  refine lv_aload_n hx hb dX1_inLand_2 rfl (lv_at hl 1 rfl) ?_
  refine m_get hx hb hts in_X1 hown hE hM 0 0 cw_0 (ci := 0) rfl 0 (by decide) (hts _ q178) (fun _ h9 => h9) rfl dX1_inLand_3 ?_
  refine lv_astore (lv' := [(4, .ref (ad 1 0)), (2, .long 0), (0, .ref (ad 0 0)), (1, .int a0)]) hx hb dX1_inLand_6 hl (by decide) rfl (fun ls hl => ?_)
  refine lv_aload hx hb dX1_inLand_8 (lv_at hl 0 rfl) ?_
  refine m_alen hx hb hE hM 1 0 3 cw_1 rfl (v := 25) rfl dX1_inLand_10 ?_
  refine lv_istore (lv' := [(5, .int 25), (4, .ref (ad 1 0)), (2, .long 0), (0, .ref (ad 0 0)), (1, .int a0)]) hx hb dX1_inLand_11 hl (by decide) rfl (fun ls hl => ?_)
  refine lv_iconst (v := 0) hx hb dX1_inLand_13 (by decide) ?_
  refine lv_istore (lv' := [(6, .int 0), (5, .int 25), (4, .ref (ad 1 0)), (2, .long 0), (0, .ref (ad 0 0)), (1, .int a0)]) hx hb dX1_inLand_14 hl (by decide) rfl (fun ls hl => ?_)
  have L_5 : ∀ (n9 i_5 : Nat), i_5 + n9 = 25 → ∀ (H : Heap) (locs : List Loc) (ls : Array Slot), mW g.1 A (cwM g ad Mx x) H → va_S A s.heap H locs → lv_has ls 12 [(0, .ref (ad 0 0)), (1, .int a0), (2, .long (cilL x a0 i_5)), (4, .ref (ad 1 0)), (5, .int 25), (6, .int (nI i_5))] → W p l e rm_X1_inLand s m args below meth c H locs 0 0 Q (F0 m 16 ls []) := by
    intro n9
    induction n9 with
    | zero =>
      intro i_5 hi H locs ls hM hS hl 
      have hi : 25 = i_5 := by omega
      subst hi
      refine lv_iload hx hb dX1_inLand_16 (lv_at hl 5 rfl) ?_
      refine lv_iload hx hb dX1_inLand_18 (lv_at hl 4 rfl) ?_
      refine lv_icmp_ge (tgt := 148) hx hb dX1_inLand_20 (by decide) (fun _ => ?_) (fun c9 => absurd (by decide) c9)
      refine lv_lload_n hx hb dX1_inLand_148 rfl (lv_at hl 2 rfl) ?_
      rw [← hQ]
      exact m_lret () hx hb hr hlk hM hS (by first | rfl | (unfold cilF; rfl)) (by first | decide | omega) (by first | decide | omega) dX1_inLand_149
    | succ n9 ih =>
      intro i_5 hi H locs ls hM hS hl 
      have hlt_i_5 : i_5 < 25 := by omega
      refine lv_iload hx hb dX1_inLand_16 (lv_at hl 5 rfl) ?_
      refine lv_iload hx hb dX1_inLand_18 (lv_at hl 4 rfl) ?_
      refine lv_icmp_ge (tgt := 148) hx hb dX1_inLand_20 (by decide) (fun c9 => absurd c9 (nI_ge (a := i_5) (b := 25) (by omega) (by decide))) (fun _ => ?_)
      refine lv_aload hx hb dX1_inLand_23 (lv_at hl 3 rfl) ?_
      refine lv_iload hx hb dX1_inLand_25 (lv_at hl 5 rfl) ?_
      refine m_aald hx hb hE hM 1 0 3 cw_1 rfl i_5 (by omega) (by decide) rfl rfl dX1_inLand_27 ?_
      refine lv_astore (lv' := [(7, .ref (ad 2 i_5)), (0, .ref (ad 0 0)), (1, .int a0), (2, .long (cilL x a0 i_5)), (4, .ref (ad 1 0)), (5, .int 25), (6, .int (nI i_5))]) hx hb dX1_inLand_28 hl (by decide) rfl (fun ls hl => ?_)
      refine lv_lload_n hx hb dX1_inLand_30 rfl (lv_at hl 3 rfl) ?_
      refine lv_iload_n hx hb dX1_inLand_31 rfl (lv_at hl 2 rfl) ?_
      have J_13 : ∀ (v_11 : Int64), ((if a0 = 0 then (1000 * ((x.1 3 i_5).toInt64)) else (if a0 = 1 then ((x.1 3 i_5).toInt64) else 0)) = v_11) → W p l e rm_X1_inLand s m args below meth c H locs 0 0 Q (F0 m 63 ls [.long v_11, .long (cilL x a0 i_5)]) := by
        intro v_11 ev_12
        refine lv_ladd hx hb dX1_inLand_63 ?_
        refine lv_lstore_n (lv' := [(2, .long ((cilL x a0 i_5) + v_11)), (7, .ref (ad 2 i_5)), (0, .ref (ad 0 0)), (1, .int a0), (4, .ref (ad 1 0)), (5, .int 25), (6, .int (nI i_5))]) hx hb dX1_inLand_64 rfl hl (by decide) rfl (fun ls hl => ?_)
        refine lv_aload hx hb dX1_inLand_65 (lv_at hl 1 rfl) ?_
        refine m_get hx hb hts in_X2 hown hE hM 2 i_5 (cw_2 (by omega)) (ci := 2) rfl 1 (by decide) (hts _ q140) (fun _ h9 => h9) rfl dX1_inLand_67 ?_
        refine lv_astore (lv' := [(8, .ref (ad 3 i_5)), (2, .long ((cilL x a0 i_5) + v_11)), (7, .ref (ad 2 i_5)), (0, .ref (ad 0 0)), (1, .int a0), (4, .ref (ad 1 0)), (5, .int 25), (6, .int (nI i_5))]) hx hb dX1_inLand_70 hl (by decide) rfl (fun ls hl => ?_)
        refine lv_aload hx hb dX1_inLand_72 (lv_at hl 0 rfl) ?_
        refine m_alen hx hb hE hM 3 i_5 4 (cw_3 (by omega)) rfl (v := 5) rfl dX1_inLand_74 ?_
        refine lv_istore (lv' := [(9, .int 5), (8, .ref (ad 3 i_5)), (2, .long ((cilL x a0 i_5) + v_11)), (7, .ref (ad 2 i_5)), (0, .ref (ad 0 0)), (1, .int a0), (4, .ref (ad 1 0)), (5, .int 25), (6, .int (nI i_5))]) hx hb dX1_inLand_75 hl (by decide) rfl (fun ls hl => ?_)
        refine lv_iconst (v := 0) hx hb dX1_inLand_77 (by decide) ?_
        refine lv_istore (lv' := [(10, .int 0), (9, .int 5), (8, .ref (ad 3 i_5)), (2, .long ((cilL x a0 i_5) + v_11)), (7, .ref (ad 2 i_5)), (0, .ref (ad 0 0)), (1, .int a0), (4, .ref (ad 1 0)), (5, .int 25), (6, .int (nI i_5))]) hx hb dX1_inLand_78 hl (by decide) rfl (fun ls hl => ?_)
        have L_18 : ∀ (n9 i_18 : Nat), i_18 + n9 = 5 → ∀ (H : Heap) (locs : List Loc) (ls : Array Slot), mW g.1 A (cwM g ad Mx x) H → va_S A s.heap H locs → lv_has ls 12 [(0, .ref (ad 0 0)), (1, .int a0), (2, .long (cilI x a0 i_5 ((cilL x a0 i_5) + v_11) i_18)), (4, .ref (ad 1 0)), (5, .int 25), (6, .int (nI i_5)), (7, .ref (ad 2 i_5)), (8, .ref (ad 3 i_5)), (9, .int 5), (10, .int (nI i_18))] → W p l e rm_X1_inLand s m args below meth c H locs 0 0 Q (F0 m 80 ls []) := by
          intro n9
          induction n9 with
          | zero =>
            intro i_18 hi H locs ls hM hS hl 
            have hi : 5 = i_18 := by omega
            subst hi
            refine lv_iload hx hb dX1_inLand_80 (lv_at hl 9 rfl) ?_
            refine lv_iload hx hb dX1_inLand_82 (lv_at hl 8 rfl) ?_
            refine lv_icmp_ge (tgt := 142) hx hb dX1_inLand_84 (by decide) (fun _ => ?_) (fun c9 => absurd (by decide) c9)
            refine lv_iinc (v := nI (i_5 + 1)) (lv' := [(6, .int (nI (i_5 + 1))), (0, .ref (ad 0 0)), (1, .int a0), (2, .long (cilI x a0 i_5 ((cilL x a0 i_5) + v_11) 5)), (4, .ref (ad 1 0)), (5, .int 25), (7, .ref (ad 2 i_5)), (8, .ref (ad 3 i_5)), (9, .int 5), (10, .int (nI 5))]) hx hb dX1_inLand_142 hl (k := 5) rfl (nI_add i_5 1) (by decide) rfl (fun ls hl => ?_)
            refine lv_goto (tgt := 16) hx hb dX1_inLand_145 (by decide) ?_
            exact ih (i_5 + 1) (by omega) H locs ls hM hS (lv_sub hl [1, 2, 3, 4, 5, 0] (by subst ev_12; rfl))
          | succ n9 ih =>
            intro i_18 hi H locs ls hM hS hl 
            have hlt_i_18 : i_18 < 5 := by omega
            refine lv_iload hx hb dX1_inLand_80 (lv_at hl 9 rfl) ?_
            refine lv_iload hx hb dX1_inLand_82 (lv_at hl 8 rfl) ?_
            refine lv_icmp_ge (tgt := 142) hx hb dX1_inLand_84 (by decide) (fun c9 => absurd c9 (nI_ge (a := i_18) (b := 5) (by omega) (by decide))) (fun _ => ?_)
            refine lv_aload hx hb dX1_inLand_87 (lv_at hl 7 rfl) ?_
            refine lv_iload hx hb dX1_inLand_89 (lv_at hl 9 rfl) ?_
            refine m_aald hx hb hE hM 3 i_5 4 (cw_3 (by omega)) rfl i_18 (by omega) (by decide) rfl rfl dX1_inLand_91 ?_
            refine lv_astore (lv' := [(11, .ref (ad 4 (5 * i_5 + i_18))), (0, .ref (ad 0 0)), (1, .int a0), (2, .long (cilI x a0 i_5 ((cilL x a0 i_5) + v_11) i_18)), (4, .ref (ad 1 0)), (5, .int 25), (6, .int (nI i_5)), (7, .ref (ad 2 i_5)), (8, .ref (ad 3 i_5)), (9, .int 5), (10, .int (nI i_18))]) hx hb dX1_inLand_92 hl (by decide) rfl (fun ls hl => ?_)
            refine lv_lload_n hx hb dX1_inLand_94 rfl (lv_at hl 3 rfl) ?_
            refine lv_iload_n hx hb dX1_inLand_95 rfl (lv_at hl 2 rfl) ?_
            have J_27 : ∀ (v_25 : Int64), ((if a0 = 0 then ((x.1 10 (5 * i_5 + i_18)).toInt64) else (if a0 = 1 then (((x.1 8 (5 * i_5 + i_18)) + (x.1 9 (5 * i_5 + i_18))).toInt64) else ((x.1 11 (5 * i_5 + i_18)).toInt64))) = v_25) → W p l e rm_X1_inLand s m args below meth c H locs 0 0 Q (F0 m 134 ls [.long v_25, .long (cilI x a0 i_5 ((cilL x a0 i_5) + v_11) i_18)]) := by
              intro v_25 ev_26
              refine lv_ladd hx hb dX1_inLand_134 ?_
              refine lv_lstore_n (lv' := [(2, .long ((cilI x a0 i_5 ((cilL x a0 i_5) + v_11) i_18) + v_25)), (11, .ref (ad 4 (5 * i_5 + i_18))), (0, .ref (ad 0 0)), (1, .int a0), (4, .ref (ad 1 0)), (5, .int 25), (6, .int (nI i_5)), (7, .ref (ad 2 i_5)), (8, .ref (ad 3 i_5)), (9, .int 5), (10, .int (nI i_18))]) hx hb dX1_inLand_135 rfl hl (by decide) rfl (fun ls hl => ?_)
              refine lv_iinc (v := nI (i_18 + 1)) (lv' := [(10, .int (nI (i_18 + 1))), (2, .long ((cilI x a0 i_5 ((cilL x a0 i_5) + v_11) i_18) + v_25)), (11, .ref (ad 4 (5 * i_5 + i_18))), (0, .ref (ad 0 0)), (1, .int a0), (4, .ref (ad 1 0)), (5, .int 25), (6, .int (nI i_5)), (7, .ref (ad 2 i_5)), (8, .ref (ad 3 i_5)), (9, .int 5)]) hx hb dX1_inLand_136 hl (k := 10) rfl (nI_add i_18 1) (by decide) rfl (fun ls hl => ?_)
              refine lv_goto (tgt := 80) hx hb dX1_inLand_139 (by decide) ?_
              exact ih (i_18 + 1) (by omega) H locs ls hM hS (lv_sub hl [3, 4, 1, 5, 6, 7, 8, 9, 10, 0] (by subst ev_26; rfl))
            refine lv_if_ne (tgt := 108) hx hb dX1_inLand_96 (by decide) (fun c_23 => ?_) (fun c_23 => ?_)
            · refine lv_iload_n hx hb dX1_inLand_108 rfl (lv_at hl 2 rfl) ?_
              refine lv_iconst (v := 1) hx hb dX1_inLand_109 (by decide) ?_
              refine lv_icmp_ne (tgt := 128) hx hb dX1_inLand_110 (by decide) (fun c_24 => ?_) (fun c_24 => ?_)
              · refine lv_aload hx hb dX1_inLand_128 (lv_at hl 0 rfl) ?_
                refine m_get hx hb hts in_X3 hown hE hM 4 (5 * i_5 + i_18) (cw_4 (by omega)) (ci := 3) rfl 3 (by decide) (hts _ q122) (fun _ h9 => h9) rfl dX1_inLand_130 ?_
                refine lv_i2l hx hb dX1_inLand_133 rfl ?_
                exact J_27 _ (by first | (rw [if_neg c_23, if_neg c_24]) | rfl | (simp only [c_23, c_24, if_true, if_false, ite_true, ite_false, not_false_eq_true, reduceIte]))
              · refine lv_aload hx hb dX1_inLand_113 (lv_at hl 0 rfl) ?_
                refine m_get hx hb hts in_X3 hown hE hM 4 (5 * i_5 + i_18) (cw_4 (by omega)) (ci := 3) rfl 0 (by decide) (hts _ q114) (fun _ h9 => h9) rfl dX1_inLand_115 ?_
                refine lv_aload hx hb dX1_inLand_118 (lv_at hl 0 rfl) ?_
                refine m_get hx hb hts in_X3 hown hE hM 4 (5 * i_5 + i_18) (cw_4 (by omega)) (ci := 3) rfl 1 (by decide) (hts _ q117) (fun _ h9 => h9) rfl dX1_inLand_120 ?_
                refine lv_iadd hx hb dX1_inLand_123 ?_
                refine lv_i2l hx hb dX1_inLand_124 rfl ?_
                refine lv_goto (tgt := 134) hx hb dX1_inLand_125 (by decide) ?_
                exact J_27 _ (by first | (rw [if_neg c_23, if_pos c_24]) | rfl | (simp only [c_23, c_24, if_true, if_false, ite_true, ite_false, not_false_eq_true, reduceIte]))
            · refine lv_aload hx hb dX1_inLand_99 (lv_at hl 0 rfl) ?_
              refine m_get hx hb hts in_X3 hown hE hM 4 (5 * i_5 + i_18) (cw_4 (by omega)) (ci := 3) rfl 2 (by decide) (hts _ q120) (fun _ h9 => h9) rfl dX1_inLand_101 ?_
              refine lv_i2l hx hb dX1_inLand_104 rfl ?_
              refine lv_goto (tgt := 134) hx hb dX1_inLand_105 (by decide) ?_
              exact J_27 _ (by first | (rw [if_pos c_23]) | rfl | (simp only [c_23, if_true, if_false, ite_true, ite_false, not_false_eq_true, reduceIte]))
        exact L_18 (5) 0 (by omega) H locs ls hM hS (lv_sub hl [5, 6, 3, 7, 8, 9, 4, 2, 1, 0] rfl)
      refine lv_if_ne (tgt := 48) hx hb dX1_inLand_32 (by decide) (fun c_9 => ?_) (fun c_9 => ?_)
      · refine lv_iload_n hx hb dX1_inLand_48 rfl (lv_at hl 2 rfl) ?_
        refine lv_iconst (v := 1) hx hb dX1_inLand_49 (by decide) ?_
        refine lv_icmp_ne (tgt := 62) hx hb dX1_inLand_50 (by decide) (fun c_10 => ?_) (fun c_10 => ?_)
        · refine lv_lconst (v := 0) hx hb dX1_inLand_62 (by decide) ?_
          exact J_13 _ (by first | (rw [if_neg c_9, if_neg c_10]) | rfl | (simp only [c_9, c_10, if_true, if_false, ite_true, ite_false, not_false_eq_true, reduceIte]))
        · refine lv_aload hx hb dX1_inLand_53 (lv_at hl 0 rfl) ?_
          refine m_get hx hb hts in_X2 hown hE hM 2 i_5 (cw_2 (by omega)) (ci := 2) rfl 3 (by decide) (hts _ q144) (fun _ h9 => h9) rfl dX1_inLand_55 ?_
          refine lv_i2l hx hb dX1_inLand_58 rfl ?_
          refine lv_goto (tgt := 63) hx hb dX1_inLand_59 (by decide) ?_
          exact J_13 _ (by first | (rw [if_neg c_9, if_pos c_10]) | rfl | (simp only [c_9, c_10, if_true, if_false, ite_true, ite_false, not_false_eq_true, reduceIte]))
      · refine lv_ldc2 hx hb hown (hts _ q177) dX1_inLand_35 ?_
        refine lv_aload hx hb dX1_inLand_38 (lv_at hl 0 rfl) ?_
        refine m_get hx hb hts in_X2 hown hE hM 2 i_5 (cw_2 (by omega)) (ci := 2) rfl 3 (by decide) (hts _ q144) (fun _ h9 => h9) rfl dX1_inLand_40 ?_
        refine lv_i2l hx hb dX1_inLand_43 rfl ?_
        refine lv_lmul hx hb dX1_inLand_44 ?_
        refine lv_goto (tgt := 63) hx hb dX1_inLand_45 (by decide) ?_
        exact J_13 _ (by first | (rw [if_pos c_9]) | rfl | (simp only [c_9, if_true, if_false, ite_true, ite_false, not_false_eq_true, reduceIte]))
  exact L_5 (25) 0 (by omega) H locs ls hM hS (lv_sub hl [4, 5, 3, 2, 1, 0] rfl)

abbrev rm_X1_balance_ok : Room := { frames := 1, cells := 0, slots := 0, locals := 31 }
set_option maxHeartbeats 400000 in
theorem k_X1_balance_ok (l : Launch) (g : GG) (A : Nat → Prop) (ad : Nat → Nat → Nat) (Mx : MM) (x : St) (j : Nat) (hj : j < 3) (a1 : Int32) (hw : inF a1 0 3 = 1) : Met l yX1_balance (ws_ yX1_balance cX1_balance 5 (some .long)) rm_X1_balance_ok (va_Pc [.ref (ad 0 0), .int (nI j), .int a1] (mPre g A (cwM g ad Mx x))) (pQl g A (cbaF x j a1) (cwM g ad Mx x)) 0 0 A := by
  refine m_start RX1 rfl (by decide) (Nat.le_of_ble_eq_true rfl) ?_
  intro p e s m args below meth c hcf hr hlk hnm hE hA H locs hM hS ls hl
  have hx := hcf.1
  have hb := hcf.2.1
  have hml := hcf.2.2.1
  have hown := hcf.2.2.2.1
  have hts := hcf.2.2.2.2
  have hl : lv_has ls 5 [(0, .ref (ad 0 0)), (1, .int (nI j)), (2, .int a1)] := hl
  generalize hQ : MQ below (pQl g A (cbaF x j a1) (cwM g ad Mx x)) args s 0 0 A = Q
  refine lv_iload_n hx hb dX1_balance_0 rfl (lv_at hl 1 rfl) ?_
  refine lv_iconst (v := 0) hx hb dX1_balance_1 (by decide) ?_
  refine lv_iconst (v := 2) hx hb dX1_balance_2 (by decide) ?_
  refine m_cpi (m_rS (As := [.int (nI j), .int 0, .int 2]) (rest := []) hcf (k_X1_isIn l g A (cwM g ad Mx x) (nI j) 0 2) (va_cwS 3 hts (lw_S q420 q421 q35 q422) rfl rfl rfl (by decide +kernel) ⟨Nat.le_of_ble_eq_true rfl, Nat.le_of_ble_eq_true rfl⟩) hE hA hM hS rfl hl.1 rfl (Nat.le_of_ble_eq_true rfl) dX1_balance_3 ⟨Nat.le_of_ble_eq_true rfl, Nat.le_of_ble_eq_true rfl⟩) hS (fun H locs hM hS => ?_)
  refine m_topI (y := 1) (inF_thr hj) ?_
  refine lv_if_eq (tgt := 22) hx hb dX1_balance_6 (by decide) (fun c9 => absurd c9 (by decide)) (fun _ => ?_)
  refine lv_iload_n hx hb dX1_balance_9 rfl (lv_at hl 2 rfl) ?_
  refine lv_iconst (v := 0) hx hb dX1_balance_10 (by decide) ?_
  refine lv_iconst (v := 3) hx hb dX1_balance_11 (by decide) ?_
  refine m_cpi (m_rS (As := [.int a1, .int 0, .int 3]) (rest := []) hcf (k_X1_isIn l g A (cwM g ad Mx x) a1 0 3) (va_cwS 3 hts (lw_S q420 q421 q35 q422) rfl rfl rfl (by decide +kernel) ⟨Nat.le_of_ble_eq_true rfl, Nat.le_of_ble_eq_true rfl⟩) hE hA hM hS rfl hl.1 rfl (Nat.le_of_ble_eq_true rfl) dX1_balance_12 ⟨Nat.le_of_ble_eq_true rfl, Nat.le_of_ble_eq_true rfl⟩) hS (fun H locs hM hS => ?_)
  refine m_topI (y := 1) (hw) ?_
  refine lv_if_eq (tgt := 22) hx hb dX1_balance_15 (by decide) (fun c9 => absurd c9 (by decide)) (fun _ => ?_)
  refine lv_iconst (v := 1) hx hb dX1_balance_18 (by decide) ?_
  refine lv_goto (tgt := 23) hx hb dX1_balance_19 (by decide) ?_
  refine m_cpv (m_rS (As := [.int 1]) (rest := []) hcf (k_X1_inRange_ok l g A (cwM g ad Mx x)) (va_cwS 1 hts (lw_S q439 q440 q35 q441) rfl rfl rfl (by decide +kernel) ⟨Nat.le_of_ble_eq_true rfl, Nat.le_of_ble_eq_true rfl⟩) hE hA hM hS rfl hl.1 rfl (Nat.le_of_ble_eq_true rfl) dX1_balance_23 ⟨Nat.le_of_ble_eq_true rfl, Nat.le_of_ble_eq_true rfl⟩) hS (fun H locs hM hS => ?_)
  refine lv_iload_n hx hb dX1_balance_26 rfl (lv_at hl 1 rfl) ?_
  have J_12 : ∀ (v_10 : Int64), ((if (nI j) = 0 then (1000 * (x.2 29)) else (if (nI j) = 1 then (x.2 29) else ((x.2 30) + (x.2 31)))) = v_10) → W p l e rm_X1_balance_ok s m args below meth c H locs 0 0 Q (F0 m 66 ls [.long v_10]) := by
    intro v_10 ev_11
    refine lv_lstore_n (lv' := [(3, .long v_10), (0, .ref (ad 0 0)), (1, .int (nI j)), (2, .int a1)]) hx hb dX1_balance_66 rfl hl (by decide) rfl (fun ls hl => ?_)
    refine lv_iload_n hx hb dX1_balance_67 rfl (lv_at hl 3 rfl) ?_
    have J_21 : ∀ (H : Heap) (locs : List Loc) (v_19 : Int64), mW g.1 A (cwM g ad Mx x) H → va_S A s.heap H locs → ((if a1 = 0 then (cilF x (nI j)) else (if a1 = 1 then (x.2 (26 + j)) else (if a1 = 2 then v_10 else (((x.2 (26 + j)) - (cilF x (nI j))) - v_10)))) = v_19) → W p l e rm_X1_balance_ok s m args below meth c H locs 0 0 Q (F0 m 116 ls [.long v_19]) := by
      intro H locs v_19 hM hS ev_20
      rw [← hQ]
      exact m_lret () hx hb hr hlk hM hS (by subst ev_20 ev_11; first | rfl | (unfold cbaF; rfl) | (unfold cbaL; rfl) | (unfold cbaF cbaL; rfl)) (by first | decide | omega) (by first | decide | omega) dX1_balance_116
    refine lv_if_ne (tgt := 79) hx hb dX1_balance_68 (by decide) (fun c_14 => ?_) (fun c_14 => ?_)
    · refine lv_iload_n hx hb dX1_balance_79 rfl (lv_at hl 3 rfl) ?_
      refine lv_iconst (v := 1) hx hb dX1_balance_80 (by decide) ?_
      refine lv_icmp_ne (tgt := 93) hx hb dX1_balance_81 (by decide) (fun c_15 => ?_) (fun c_15 => ?_)
      · refine lv_iload_n hx hb dX1_balance_93 rfl (lv_at hl 3 rfl) ?_
        refine lv_iconst (v := 2) hx hb dX1_balance_94 (by decide) ?_
        refine lv_icmp_ne (tgt := 102) hx hb dX1_balance_95 (by decide) (fun c_16 => ?_) (fun c_16 => ?_)
        · refine lv_aload_n hx hb dX1_balance_102 rfl (lv_at hl 1 rfl) ?_
          refine m_get hx hb hts in_X1 hown hE hM 0 0 cw_0 (ci := 0) rfl 5 (by decide) (hts _ q185) (fun _ h9 => h9) rfl dX1_balance_103 ?_
          refine lv_iload_n hx hb dX1_balance_106 rfl (lv_at hl 2 rfl) ?_
          refine ca_ld hcf hE hM j (by omega) rfl dX1_balance_107 ?_
          refine lv_aload_n hx hb dX1_balance_108 rfl (lv_at hl 1 rfl) ?_
          refine lv_iload_n hx hb dX1_balance_109 rfl (lv_at hl 2 rfl) ?_
          refine m_cpl (m_rV (As := [.int (nI j)]) (rest := [.long (x.2 (26 + j))]) hcf (k_X1_inLand l g A ad Mx x (nI j)) (cwV 1 hts (lw_V q173 q175 qs0 q35 q176) rfl rfl rfl (by decide +kernel) ⟨Nat.le_of_ble_eq_true rfl, Nat.le_of_ble_eq_true rfl⟩) hE hA hM hS 0 0 cw_0 (ci := 0) rfl rfl hl.1 rfl (Nat.le_of_ble_eq_true rfl) dX1_balance_110 ⟨Nat.le_of_ble_eq_true rfl, Nat.le_of_ble_eq_true rfl⟩) hS (fun H locs hM hS => ?_)
          refine lv_lsub hx hb dX1_balance_113 ?_
          refine lv_lload_n hx hb dX1_balance_114 rfl (lv_at hl 0 rfl) ?_
          refine lv_lsub hx hb dX1_balance_115 ?_
          exact J_21 H locs _ hM hS (by first | (rw [if_neg c_14, if_neg c_15, if_neg c_16]) | rfl | (simp only [c_14, c_15, c_16, if_true, if_false, ite_true, ite_false, not_false_eq_true, reduceIte]))
        · refine lv_lload_n hx hb dX1_balance_98 rfl (lv_at hl 0 rfl) ?_
          refine lv_goto (tgt := 116) hx hb dX1_balance_99 (by decide) ?_
          exact J_21 H locs _ hM hS (by first | (rw [if_neg c_14, if_neg c_15, if_pos c_16]) | rfl | (simp only [c_14, c_15, c_16, if_true, if_false, ite_true, ite_false, not_false_eq_true, reduceIte]))
      · refine lv_aload_n hx hb dX1_balance_84 rfl (lv_at hl 1 rfl) ?_
        refine m_get hx hb hts in_X1 hown hE hM 0 0 cw_0 (ci := 0) rfl 5 (by decide) (hts _ q185) (fun _ h9 => h9) rfl dX1_balance_85 ?_
        refine lv_iload_n hx hb dX1_balance_88 rfl (lv_at hl 2 rfl) ?_
        refine ca_ld hcf hE hM j (by omega) rfl dX1_balance_89 ?_
        refine lv_goto (tgt := 116) hx hb dX1_balance_90 (by decide) ?_
        exact J_21 H locs _ hM hS (by first | (rw [if_neg c_14, if_pos c_15]) | rfl | (simp only [c_14, c_15, if_true, if_false, ite_true, ite_false, not_false_eq_true, reduceIte]))
    · refine lv_aload_n hx hb dX1_balance_71 rfl (lv_at hl 1 rfl) ?_
      refine lv_iload_n hx hb dX1_balance_72 rfl (lv_at hl 2 rfl) ?_
      refine m_cpl (m_rV (As := [.int (nI j)]) (rest := []) hcf (k_X1_inLand l g A ad Mx x (nI j)) (cwV 1 hts (lw_V q173 q175 qs0 q35 q176) rfl rfl rfl (by decide +kernel) ⟨Nat.le_of_ble_eq_true rfl, Nat.le_of_ble_eq_true rfl⟩) hE hA hM hS 0 0 cw_0 (ci := 0) rfl rfl hl.1 rfl (Nat.le_of_ble_eq_true rfl) dX1_balance_73 ⟨Nat.le_of_ble_eq_true rfl, Nat.le_of_ble_eq_true rfl⟩) hS (fun H locs hM hS => ?_)
      refine lv_goto (tgt := 116) hx hb dX1_balance_76 (by decide) ?_
      exact J_21 H locs _ hM hS (by first | (rw [if_pos c_14]) | rfl | (simp only [c_14, if_true, if_false, ite_true, ite_false, not_false_eq_true, reduceIte]))
  refine lv_if_ne (tgt := 41) hx hb dX1_balance_27 (by decide) (fun c_8 => ?_) (fun c_8 => ?_)
  · refine lv_iload_n hx hb dX1_balance_41 rfl (lv_at hl 1 rfl) ?_
    refine lv_iconst (v := 1) hx hb dX1_balance_42 (by decide) ?_
    refine lv_icmp_ne (tgt := 53) hx hb dX1_balance_43 (by decide) (fun c_9 => ?_) (fun c_9 => ?_)
    · refine lv_aload_n hx hb dX1_balance_53 rfl (lv_at hl 0 rfl) ?_
      refine m_get hx hb hts in_X1 hown hE hM 0 0 cw_0 (ci := 0) rfl 4 (by decide) (hts _ q183) (fun _ h9 => h9) rfl dX1_balance_54 ?_
      refine lv_iconst (v := 0) hx hb dX1_balance_57 (by decide) ?_
      refine cg_ld hcf hE hM 0 (by omega) rfl dX1_balance_58 ?_
      refine lv_aload_n hx hb dX1_balance_59 rfl (lv_at hl 0 rfl) ?_
      refine m_get hx hb hts in_X1 hown hE hM 0 0 cw_0 (ci := 0) rfl 4 (by decide) (hts _ q183) (fun _ h9 => h9) rfl dX1_balance_60 ?_
      refine lv_iconst (v := 1) hx hb dX1_balance_63 (by decide) ?_
      refine cg_ld hcf hE hM 1 (by omega) rfl dX1_balance_64 ?_
      refine lv_ladd hx hb dX1_balance_65 ?_
      exact J_12 _ (by first | (rw [if_neg c_8, if_neg c_9]) | rfl | (simp only [c_8, c_9, if_true, if_false, ite_true, ite_false, not_false_eq_true, reduceIte]))
    · refine lv_aload_n hx hb dX1_balance_46 rfl (lv_at hl 0 rfl) ?_
      refine m_get hx hb hts in_X1 hown hE hM 0 0 cw_0 (ci := 0) rfl 6 (by decide) (hts _ q186) (fun _ h9 => h9) rfl dX1_balance_47 ?_
      refine lv_goto (tgt := 66) hx hb dX1_balance_50 (by decide) ?_
      exact J_12 _ (by first | (rw [if_neg c_8, if_pos c_9]) | rfl | (simp only [c_8, c_9, if_true, if_false, ite_true, ite_false, not_false_eq_true, reduceIte]))
  · refine lv_ldc2 hx hb hown (hts _ q177) dX1_balance_30 ?_
    refine lv_aload_n hx hb dX1_balance_33 rfl (lv_at hl 0 rfl) ?_
    refine m_get hx hb hts in_X1 hown hE hM 0 0 cw_0 (ci := 0) rfl 6 (by decide) (hts _ q186) (fun _ h9 => h9) rfl dX1_balance_34 ?_
    refine lv_lmul hx hb dX1_balance_37 ?_
    refine lv_goto (tgt := 66) hx hb dX1_balance_38 (by decide) ?_
    exact J_12 _ (by first | (rw [if_pos c_8]) | rfl | (simp only [c_8, if_true, if_false, ite_true, ite_false, not_false_eq_true, reduceIte]))

abbrev rm_X1_balance_n1 : Room := { frames := 7, cells := 1, slots := 6, locals := 102 }
set_option maxHeartbeats 400000 in
theorem k_X1_balance_n1 (l : Launch) (g : GG) (A : Nat → Prop) (hlt : l.stackTraces = false) (ad : Nat → Nat → Nat) (Mx : MM) (x : St) (a0 a1 : Int32) (h0 : inF a0 0 2 = 0) : vx_Met l yX1_balance (ws_ yX1_balance cX1_balance 5 (some .long)) rm_X1_balance_n1 (va_Pc [.ref (ad 0 0), .int a0, .int a1] (mPre g A (cwM g ad Mx x))) pNo (mX g A "java/lang/IllegalArgumentException" (cwM g ad Mx x)) 1 6 A := by
  refine m_startX RX1 rfl (by decide) (Nat.le_of_ble_eq_true rfl) ?_
  intro p e s m args below meth c hcf hr hlk hnm hE hA ht H locs hM hS ls hl
  have hx := hcf.1
  have hb := hcf.2.1
  have hml := hcf.2.2.1
  have hown := hcf.2.2.2.1
  have hts := hcf.2.2.2.2
  have hl : lv_has ls 5 [(0, .ref (ad 0 0)), (1, .int a0), (2, .int a1)] := hl
  generalize hQ : vx_MQ below pNo (mX g A "java/lang/IllegalArgumentException" (cwM g ad Mx x)) args s 1 6 A = Q
  refine lv_iload_n hx hb dX1_balance_0 rfl (lv_at hl 1 rfl) ?_
  refine lv_iconst (v := 0) hx hb dX1_balance_1 (by decide) ?_
  refine lv_iconst (v := 2) hx hb dX1_balance_2 (by decide) ?_
  refine m_cpi (m_rS (As := [.int a0, .int 0, .int 2]) (rest := []) hcf (k_X1_isIn l g A (cwM g ad Mx x) a0 0 2) (va_cwS 3 hts (lw_S q420 q421 q35 q422) rfl rfl rfl (by decide +kernel) ⟨Nat.le_of_ble_eq_true rfl, Nat.le_of_ble_eq_true rfl⟩) hE hA hM hS rfl hl.1 rfl (Nat.le_of_ble_eq_true rfl) dX1_balance_3 ⟨Nat.le_of_ble_eq_true rfl, Nat.le_of_ble_eq_true rfl⟩) hS (fun H locs hM hS => ?_)
  refine m_topI (y := 0) (h0) ?_
  refine lv_if_eq (tgt := 22) hx hb dX1_balance_6 (by decide) (fun _ => ?_) (fun c9 => absurd (by decide) c9)
  refine lv_iconst (v := 0) hx hb dX1_balance_22 (by decide) ?_
  rw [← hQ]
  exact m_xend (m_xS (As := [.int 0]) (rest := []) hcf (k_X1_inRange_no l g A hlt (cwM g ad Mx x)) (va_cwS 1 hts (lw_S q439 q440 q35 q441) rfl rfl rfl (by decide +kernel) ⟨Nat.le_of_ble_eq_true rfl, Nat.le_of_ble_eq_true rfl⟩) hE hA hM hS rfl hl.1 rfl (Nat.le_of_ble_eq_true rfl) dX1_balance_23 ⟨Nat.le_of_ble_eq_true rfl, Nat.le_of_ble_eq_true rfl⟩) ht hlk hS (Nat.le_of_ble_eq_true rfl) (Nat.le_of_ble_eq_true rfl)

abbrev rm_X1_balance_n2 : Room := { frames := 7, cells := 1, slots := 6, locals := 102 }
set_option maxHeartbeats 400000 in
theorem k_X1_balance_n2 (l : Launch) (g : GG) (A : Nat → Prop) (hlt : l.stackTraces = false) (ad : Nat → Nat → Nat) (Mx : MM) (x : St) (j : Nat) (hj : j < 3) (a1 : Int32) (hw : inF a1 0 3 = 0) : vx_Met l yX1_balance (ws_ yX1_balance cX1_balance 5 (some .long)) rm_X1_balance_n2 (va_Pc [.ref (ad 0 0), .int (nI j), .int a1] (mPre g A (cwM g ad Mx x))) pNo (mX g A "java/lang/IllegalArgumentException" (cwM g ad Mx x)) 1 6 A := by
  refine m_startX RX1 rfl (by decide) (Nat.le_of_ble_eq_true rfl) ?_
  intro p e s m args below meth c hcf hr hlk hnm hE hA ht H locs hM hS ls hl
  have hx := hcf.1
  have hb := hcf.2.1
  have hml := hcf.2.2.1
  have hown := hcf.2.2.2.1
  have hts := hcf.2.2.2.2
  have hl : lv_has ls 5 [(0, .ref (ad 0 0)), (1, .int (nI j)), (2, .int a1)] := hl
  generalize hQ : vx_MQ below pNo (mX g A "java/lang/IllegalArgumentException" (cwM g ad Mx x)) args s 1 6 A = Q
  refine lv_iload_n hx hb dX1_balance_0 rfl (lv_at hl 1 rfl) ?_
  refine lv_iconst (v := 0) hx hb dX1_balance_1 (by decide) ?_
  refine lv_iconst (v := 2) hx hb dX1_balance_2 (by decide) ?_
  refine m_cpi (m_rS (As := [.int (nI j), .int 0, .int 2]) (rest := []) hcf (k_X1_isIn l g A (cwM g ad Mx x) (nI j) 0 2) (va_cwS 3 hts (lw_S q420 q421 q35 q422) rfl rfl rfl (by decide +kernel) ⟨Nat.le_of_ble_eq_true rfl, Nat.le_of_ble_eq_true rfl⟩) hE hA hM hS rfl hl.1 rfl (Nat.le_of_ble_eq_true rfl) dX1_balance_3 ⟨Nat.le_of_ble_eq_true rfl, Nat.le_of_ble_eq_true rfl⟩) hS (fun H locs hM hS => ?_)
  refine m_topI (y := 1) (inF_thr hj) ?_
  refine lv_if_eq (tgt := 22) hx hb dX1_balance_6 (by decide) (fun c9 => absurd c9 (by decide)) (fun _ => ?_)
  refine lv_iload_n hx hb dX1_balance_9 rfl (lv_at hl 2 rfl) ?_
  refine lv_iconst (v := 0) hx hb dX1_balance_10 (by decide) ?_
  refine lv_iconst (v := 3) hx hb dX1_balance_11 (by decide) ?_
  refine m_cpi (m_rS (As := [.int a1, .int 0, .int 3]) (rest := []) hcf (k_X1_isIn l g A (cwM g ad Mx x) a1 0 3) (va_cwS 3 hts (lw_S q420 q421 q35 q422) rfl rfl rfl (by decide +kernel) ⟨Nat.le_of_ble_eq_true rfl, Nat.le_of_ble_eq_true rfl⟩) hE hA hM hS rfl hl.1 rfl (Nat.le_of_ble_eq_true rfl) dX1_balance_12 ⟨Nat.le_of_ble_eq_true rfl, Nat.le_of_ble_eq_true rfl⟩) hS (fun H locs hM hS => ?_)
  refine m_topI (y := 0) (hw) ?_
  refine lv_if_eq (tgt := 22) hx hb dX1_balance_15 (by decide) (fun _ => ?_) (fun c9 => absurd (by decide) c9)
  refine lv_iconst (v := 0) hx hb dX1_balance_22 (by decide) ?_
  rw [← hQ]
  exact m_xend (m_xS (As := [.int 0]) (rest := []) hcf (k_X1_inRange_no l g A hlt (cwM g ad Mx x)) (va_cwS 1 hts (lw_S q439 q440 q35 q441) rfl rfl rfl (by decide +kernel) ⟨Nat.le_of_ble_eq_true rfl, Nat.le_of_ble_eq_true rfl⟩) hE hA hM hS rfl hl.1 rfl (Nat.le_of_ble_eq_true rfl) dX1_balance_23 ⟨Nat.le_of_ble_eq_true rfl, Nat.le_of_ble_eq_true rfl⟩) ht hlk hS (Nat.le_of_ble_eq_true rfl) (Nat.le_of_ble_eq_true rfl)
