/-! lists: add -/
set_option maxRecDepth 100000
abbrev rm_J2_add_2_r : Room := { frames := 0, cells := 0, slots := 0, locals := 0 }
set_option maxHeartbeats 400000 in
theorem k_J2_add_2_r (l : Launch) (g : GG) (A : Nat → Prop) (B : MM) (i a : Nat) (md : Int32) (el cn cap : Nat) (f : Nat → Option Nat) (hcc : cn < cap) (hc1 : cap ≤ 100) (k1 n1 q ci w : Nat) (r : vw_C) (vs : List Value) (hq : B k1 n1 = some (q, .inr (ci, vs))) (hk5 : k1 ≠ 5) (hk6 : k1 ≠ 6) (hc : clW[ci]? = some r) (hca : ambW[w]? = some (.castable r.1 "java/lang/Object")) : Met l yJ2_add_2 (ws_ yJ2_add_2 cJ2_add_2 4 none) rm_J2_add_2_r (va_Pc [.ref a, .ref q, .ref el, .int (nI cn)] (mPre g A (liM g B i a md el cn cap f))) (pQv g A (liM g B i a md el (cn + 1) cap (va_up f cn (some q)))) 0 0 A := by
  refine m_start RJ2 rfl (by decide) (Nat.le_of_ble_eq_true rfl) ?_
  intro p e s m args below meth c hcf hr hlk hnm hE hA H locs hM hS ls hl
  have hx := hcf.1
  have hb := hcf.2.1
  have hml := hcf.2.2.1
  have hown := hcf.2.2.2.1
  have hts := hcf.2.2.2.2
  have hl : lv_has ls 4 [(0, .ref a), (1, .ref q), (2, .ref el), (3, .int (nI cn))] := hl
  generalize hQ : MQ below (pQv g A (liM g B i a md el (cn + 1) cap (va_up f cn (some q)))) args s 0 0 A = Q
  refine lv_iload_n hx hb dJ2_add_2_0 rfl (lv_at hl 3 rfl) ?_
  refine lv_aload_n hx hb dJ2_add_2_1 rfl (lv_at hl 2 rfl) ?_
  refine m_alen hx hb hE hM 6 i 5 (liM_a _ _ _ _ _ _ _ _ _) rfl (v := nI cap) rfl dJ2_add_2_2 ?_
  refine lv_icmp_ne (tgt := 11) hx hb dJ2_add_2_3 (by decide) (fun _ => ?_) (fun c9 => absurd c9 (fun z => absurd ((nI_eq (by omega) (by omega)).mp z) (by omega)))
  refine lv_aload_n hx hb dJ2_add_2_11 rfl (lv_at hl 2 rfl) ?_
  refine lv_iload_n hx hb dJ2_add_2_12 rfl (lv_at hl 3 rfl) ?_
  refine lv_aload_n hx hb dJ2_add_2_13 rfl (lv_at hl 1 rfl) ?_
  refine m_aastO hx hb hE hM hS 6 i k1 n1 ci (liM_a _ _ _ _ _ _ _ _ _) ((liM_o _ _ _ _ _ _ _ _ _ (fun z => hk5 z.1) (fun z => hk6 z.1)).trans hq) hc (hE.nw w hca) cn (by omega) (by omega) rfl (M' := liM g B i a md el cn cap (va_up f cn (some q))) (liM_a _ _ _ _ _ _ _ _ _) (fun j k h9 => liM_a2 _ _ _ _ _ _ _ _ _ _ _ j k h9) dJ2_add_2_14 (fun H locs hM hS => ?_)
  refine lv_aload_n hx hb dJ2_add_2_15 rfl (lv_at hl 0 rfl) ?_
  refine lv_iload_n hx hb dJ2_add_2_16 rfl (lv_at hl 3 rfl) ?_
  refine lv_iconst (v := 1) hx hb dJ2_add_2_17 (by decide) ?_
  refine lv_iadd hx hb dJ2_add_2_18 ?_
  refine m_topI (y := nI (cn + 1)) (nI_add cn 1) ?_
  refine m_put hx hb hts in_J2 tyJ2 tyJ2_ok nmJ2 hown hE hM hS 5 i (liM_l _ _ _ _ _ _ _ _ _) (ci := 8) rfl 2 (by decide) (hts _ q90) (fun _ h9 => h9) rfl (ty := .int) rfl rfl rfl (Nat.le_of_ble_eq_true rfl) (M' := liM g B i a md el (cn + 1) cap (va_up f cn (some q))) (liM_l _ _ _ _ _ _ _ _ _) (fun j k h9 => (liM_l2 _ _ _ _ _ _ _ _ _ _ _ _ j k h9)) dJ2_add_2_19 (fun H locs hM hS => ?_)
  rw [← hQ]
  exact m_vret () hx hb hr hlk hM hS trivial (by first | decide | omega) (by first | decide | omega) dJ2_add_2_22

abbrev rm_J2_add_2_m : Room := { frames := 5, cells := 1, slots := 100, locals := 147 }
set_option maxHeartbeats 400000 in
theorem k_J2_add_2_m (l : Launch) (g : GG) (A : Nat → Prop) (B : MM) (i a : Nat) (md : Int32) (el cn cap : Nat) (f : Nat → Option Nat) (hcc : cn = cap) (hc2 : 4 ≤ cap) (hc1 : cap ≤ 50) (h14 : B 14 0 = none) (hO : liO (liM g B i a md el cn cap f) cap f) (k1 n1 q ci w : Nat) (r : vw_C) (vs : List Value) (hq : B k1 n1 = some (q, .inr (ci, vs))) (hk5 : k1 ≠ 5) (hk6 : k1 ≠ 6) (hc : clW[ci]? = some r) (hca : ambW[w]? = some (.castable r.1 "java/lang/Object")) : Met l yJ2_add_2 (ws_ yJ2_add_2 cJ2_add_2 4 none) rm_J2_add_2_m (va_Pc [.ref a, .ref q, .ref el, .int (nI cn)] (mPre g A (liM g B i a md el cn cap f))) (va_Qv (fun (_ : Nat) => True) (fun eN t => mW g.1 A (liM g B i a md eN (cn + 1) (cap + cap / 2) (va_up (cpyF cap f) cn (some q))) t.heap) A) 1 100 A := by
  refine m_start RJ2 rfl (by decide) (Nat.le_of_ble_eq_true rfl) ?_
  intro p e s m args below meth c hcf hr hlk hnm hE hA H locs hM hS ls hl
  have hx := hcf.1
  have hb := hcf.2.1
  have hml := hcf.2.2.1
  have hown := hcf.2.2.2.1
  have hts := hcf.2.2.2.2
  have hl : lv_has ls 4 [(0, .ref a), (1, .ref q), (2, .ref el), (3, .int (nI cn))] := hl
  generalize hQ : MQ below (va_Qv (fun (_ : Nat) => True) (fun eN t => mW g.1 A (liM g B i a md eN (cn + 1) (cap + cap / 2) (va_up (cpyF cap f) cn (some q))) t.heap) A) args s 1 100 A = Q
  refine lv_iload_n hx hb dJ2_add_2_0 rfl (lv_at hl 3 rfl) ?_
  refine lv_aload_n hx hb dJ2_add_2_1 rfl (lv_at hl 2 rfl) ?_
  refine m_alen hx hb hE hM 6 i 5 (liM_a _ _ _ _ _ _ _ _ _) rfl (v := nI cap) rfl dJ2_add_2_2 ?_
  refine lv_icmp_ne (tgt := 11) hx hb dJ2_add_2_3 (by decide) (fun c9 => absurd (by rw [hcc]) c9) (fun _ => ?_)
  refine lv_aload_n hx hb dJ2_add_2_6 rfl (lv_at hl 0 rfl) ?_
  refine m_cr (m_rV (As := []) (rest := []) hcf (k_J2_grow_m l g A B i a md el cn cap f hcc hc2 hc1 h14 hO) (cwV 0 hts (lw_V q689 q691 qs11 q38 q692) rfl rfl rfl (by decide +kernel) ⟨Nat.le_of_ble_eq_true rfl, Nat.le_of_ble_eq_true rfl⟩) hE hA hM hS 5 i (liM_l _ _ _ _ _ _ _ _ _) (ci := 8) rfl rfl hl.1 rfl (Nat.le_of_ble_eq_true rfl) dJ2_add_2_7 ⟨Nat.le_of_ble_eq_true rfl, Nat.le_of_ble_eq_true rfl⟩) hS (fun eN v9 H locs _ hv hM hS => ?_)
  rw [hv]
  refine lv_astore_n (lv' := [(2, .ref eN), (0, .ref a), (1, .ref q), (3, .int (nI cn))]) hx hb dJ2_add_2_10 rfl hl (by decide) rfl (fun ls hl => ?_)
  refine lv_aload_n hx hb dJ2_add_2_11 rfl (lv_at hl 0 rfl) ?_
  refine lv_iload_n hx hb dJ2_add_2_12 rfl (lv_at hl 3 rfl) ?_
  refine lv_aload_n hx hb dJ2_add_2_13 rfl (lv_at hl 2 rfl) ?_
  refine m_aastO hx hb hE hM hS 6 i k1 n1 ci (liM_a _ _ _ _ _ _ _ _ _) ((liM_o _ _ _ _ _ _ _ _ _ (fun z => hk5 z.1) (fun z => hk6 z.1)).trans hq) hc (hE.nw w hca) cn (by omega) (by omega) rfl (M' := liM g B i a md eN cn (cap + cap / 2) (va_up (cpyF cap f) cn (some q))) (liM_a _ _ _ _ _ _ _ _ _) (fun j k h9 => liM_a2 _ _ _ _ _ _ _ _ _ _ _ j k h9) dJ2_add_2_14 (fun H locs hM hS => ?_)
  refine lv_aload_n hx hb dJ2_add_2_15 rfl (lv_at hl 1 rfl) ?_
  refine lv_iload_n hx hb dJ2_add_2_16 rfl (lv_at hl 3 rfl) ?_
  refine lv_iconst (v := 1) hx hb dJ2_add_2_17 (by decide) ?_
  refine lv_iadd hx hb dJ2_add_2_18 ?_
  refine m_topI (y := nI (cn + 1)) (nI_add cn 1) ?_
  refine m_put hx hb hts in_J2 tyJ2 tyJ2_ok nmJ2 hown hE hM hS 5 i (liM_l _ _ _ _ _ _ _ _ _) (ci := 8) rfl 2 (by decide) (hts _ q90) (fun _ h9 => h9) rfl (ty := .int) rfl rfl rfl (Nat.le_of_ble_eq_true rfl) (M' := liM g B i a md eN (cn + 1) (cap + cap / 2) (va_up (cpyF cap f) cn (some q))) (liM_l _ _ _ _ _ _ _ _ _) (fun j k h9 => (liM_l2 _ _ _ _ _ _ _ _ _ _ _ _ j k h9)) dJ2_add_2_19 (fun H locs hM hS => ?_)
  rw [← hQ]
  exact m_vret eN hx hb hr hlk hM hS trivial (by first | decide | omega) (by first | decide | omega) dJ2_add_2_22

abbrev rm_J2_add_2_f : Room := { frames := 3, cells := 1, slots := 10, locals := 64 }
set_option maxHeartbeats 400000 in
theorem k_J2_add_2_f (l : Launch) (g : GG) (A : Nat → Prop) (B : MM) (i a : Nat) (md : Int32) (h6 : B 6 i = none) (k1 n1 q ci w : Nat) (r : vw_C) (vs : List Value) (hq : B k1 n1 = some (q, .inr (ci, vs))) (hk5 : k1 ≠ 5) (hk6 : k1 ≠ 6) (hc : clW[ci]? = some r) (hca : ambW[w]? = some (.castable r.1 "java/lang/Object")) : Met l yJ2_add_2 (ws_ yJ2_add_2 cJ2_add_2 4 none) rm_J2_add_2_f (va_Pc [.ref a, .ref q, .ref (g.2.2.2 3), .int (nI 0)] (mPre g A (liL g B i a md (g.2.2.2 3) 0))) (va_Qv (fun (_ : Nat) => True) (fun eN t => mW g.1 A (liM g B i a md eN 1 10 (va_up (fun _ => none) 0 (some q))) t.heap) A) 1 10 A := by
  refine m_start RJ2 rfl (by decide) (Nat.le_of_ble_eq_true rfl) ?_
  intro p e s m args below meth c hcf hr hlk hnm hE hA H locs hM hS ls hl
  have hx := hcf.1
  have hb := hcf.2.1
  have hml := hcf.2.2.1
  have hown := hcf.2.2.2.1
  have hts := hcf.2.2.2.2
  have hl : lv_has ls 4 [(0, .ref a), (1, .ref q), (2, .ref (g.2.2.2 3)), (3, .int (nI 0))] := hl
  generalize hQ : MQ below (va_Qv (fun (_ : Nat) => True) (fun eN t => mW g.1 A (liM g B i a md eN 1 10 (va_up (fun _ => none) 0 (some q))) t.heap) A) args s 1 10 A = Q
  refine lv_iload_n hx hb dJ2_add_2_0 rfl (lv_at hl 3 rfl) ?_
  refine lv_aload_n hx hb dJ2_add_2_1 rfl (lv_at hl 2 rfl) ?_
  refine va_tlen hx hb hE.2.1.2.2.2.2.2.2.2.2.2.1 hS (v := 0) rfl dJ2_add_2_2 ?_
  refine lv_icmp_ne (tgt := 11) hx hb dJ2_add_2_3 (by decide) (fun c9 => absurd rfl c9) (fun _ => ?_)
  refine lv_aload_n hx hb dJ2_add_2_6 rfl (lv_at hl 0 rfl) ?_
  refine m_cr (m_rV (As := []) (rest := []) hcf (k_J2_grow_f l g A B i a md h6) (cwV 0 hts (lw_V q689 q691 qs11 q38 q692) rfl rfl rfl (by decide +kernel) ⟨Nat.le_of_ble_eq_true rfl, Nat.le_of_ble_eq_true rfl⟩) hE hA hM hS 5 i (mUp_self _ _ _ _) (ci := 8) rfl rfl hl.1 rfl (Nat.le_of_ble_eq_true rfl) dJ2_add_2_7 ⟨Nat.le_of_ble_eq_true rfl, Nat.le_of_ble_eq_true rfl⟩) hS (fun eN v9 H locs _ hv hM hS => ?_)
  rw [hv]
  refine lv_astore_n (lv' := [(2, .ref eN), (0, .ref a), (1, .ref q), (3, .int (nI 0))]) hx hb dJ2_add_2_10 rfl hl (by decide) rfl (fun ls hl => ?_)
  refine lv_aload_n hx hb dJ2_add_2_11 rfl (lv_at hl 0 rfl) ?_
  refine lv_iload_n hx hb dJ2_add_2_12 rfl (lv_at hl 3 rfl) ?_
  refine lv_aload_n hx hb dJ2_add_2_13 rfl (lv_at hl 2 rfl) ?_
  refine m_aastO hx hb hE hM hS 6 i k1 n1 ci (liM_a _ _ _ _ _ _ _ _ _) ((liM_o _ _ _ _ _ _ _ _ _ (fun z => hk5 z.1) (fun z => hk6 z.1)).trans hq) hc (hE.nw w hca) 0 (by omega) (by omega) rfl (M' := liM g B i a md eN 0 10 (va_up (fun _ => none) 0 (some q))) (liM_a _ _ _ _ _ _ _ _ _) (fun j k h9 => liM_a2 _ _ _ _ _ _ _ _ _ _ _ j k h9) dJ2_add_2_14 (fun H locs hM hS => ?_)
  refine lv_aload_n hx hb dJ2_add_2_15 rfl (lv_at hl 1 rfl) ?_
  refine lv_iload_n hx hb dJ2_add_2_16 rfl (lv_at hl 3 rfl) ?_
  refine lv_iconst (v := 1) hx hb dJ2_add_2_17 (by decide) ?_
  refine lv_iadd hx hb dJ2_add_2_18 ?_
  refine m_topI (y := 1) (by decide) ?_
  refine m_put hx hb hts in_J2 tyJ2 tyJ2_ok nmJ2 hown hE hM hS 5 i (liM_l _ _ _ _ _ _ _ _ _) (ci := 8) rfl 2 (by decide) (hts _ q90) (fun _ h9 => h9) rfl (ty := .int) rfl rfl rfl (Nat.le_of_ble_eq_true rfl) (M' := liM g B i a md eN 1 10 (va_up (fun _ => none) 0 (some q))) (liM_l _ _ _ _ _ _ _ _ _) (fun j k h9 => (liM_l2 _ _ _ _ _ _ _ _ _ _ _ _ j k h9)) dJ2_add_2_19 (fun H locs hM hS => ?_)
  rw [← hQ]
  exact m_vret eN hx hb hr hlk hM hS trivial (by first | decide | omega) (by first | decide | omega) dJ2_add_2_22

abbrev rm_J2_add_r : Room := { frames := 1, cells := 0, slots := 0, locals := 23 }
set_option maxHeartbeats 400000 in
theorem k_J2_add_r (l : Launch) (g : GG) (A : Nat → Prop) (B : MM) (i a : Nat) (md : Int32) (el cn cap : Nat) (f : Nat → Option Nat) (hcc : cn < cap) (hc1 : cap ≤ 100) (k1 n1 q ci w : Nat) (r : vw_C) (vs : List Value) (hq : B k1 n1 = some (q, .inr (ci, vs))) (hk5 : k1 ≠ 5) (hk6 : k1 ≠ 6) (hc : clW[ci]? = some r) (hca : ambW[w]? = some (.castable r.1 "java/lang/Object")) : Met l yJ2_add (ws_ yJ2_add cJ2_add 2 (some .boolean)) rm_J2_add_r (va_Pc [.ref a, .ref q] (mPre g A (liM g B i a md el cn cap f))) (pQi g A 1 (liM g B i a (md + 1) el (cn + 1) cap (va_up f cn (some q)))) 0 0 A := by
  refine m_start RJ2 rfl (by decide) (Nat.le_of_ble_eq_true rfl) ?_
  intro p e s m args below meth c hcf hr hlk hnm hE hA H locs hM hS ls hl
  have hx := hcf.1
  have hb := hcf.2.1
  have hml := hcf.2.2.1
  have hown := hcf.2.2.2.1
  have hts := hcf.2.2.2.2
  have hl : lv_has ls 2 [(0, .ref a), (1, .ref q)] := hl
  generalize hQ : MQ below (pQi g A 1 (liM g B i a (md + 1) el (cn + 1) cap (va_up f cn (some q)))) args s 0 0 A = Q
  refine lv_aload_n hx hb dJ2_add_0 rfl (lv_at hl 0 rfl) ?_
  refine lv_dup hx hb dJ2_add_1 rfl ?_
  refine m_get hx hb hts in_J2 hown hE hM 5 i (liM_l _ _ _ _ _ _ _ _ _) (ci := 8) rfl 0 (by decide) (hts _ q92) (fun x9 h9 => u_same (hts _ q93) x9 h9) rfl dJ2_add_2 ?_
  refine lv_iconst (v := 1) hx hb dJ2_add_5 (by decide) ?_
  refine lv_iadd hx hb dJ2_add_6 ?_
  refine m_put hx hb hts in_J2 tyJ2 tyJ2_ok nmJ2 hown hE hM hS 5 i (liM_l _ _ _ _ _ _ _ _ _) (ci := 8) rfl 0 (by decide) (hts _ q92) (fun x9 h9 => u_same (hts _ q93) x9 h9) rfl (ty := .int) rfl rfl rfl (Nat.le_of_ble_eq_true rfl) (M' := liM g B i a (md + 1) el cn cap f) (liM_l _ _ _ _ _ _ _ _ _) (fun j k h9 => (liM_l2 _ _ _ _ _ _ _ _ _ _ _ _ j k h9)) dJ2_add_7 (fun H locs hM hS => ?_)
  refine lv_aload_n hx hb dJ2_add_10 rfl (lv_at hl 0 rfl) ?_
  refine lv_aload_n hx hb dJ2_add_11 rfl (lv_at hl 1 rfl) ?_
  refine lv_aload_n hx hb dJ2_add_12 rfl (lv_at hl 0 rfl) ?_
  refine m_get hx hb hts in_J2 hown hE hM 5 i (liM_l _ _ _ _ _ _ _ _ _) (ci := 8) rfl 1 (by decide) (hts _ q89) (fun _ h9 => h9) rfl dJ2_add_13 ?_
  refine lv_aload_n hx hb dJ2_add_16 rfl (lv_at hl 0 rfl) ?_
  refine m_get hx hb hts in_J2 hown hE hM 5 i (liM_l _ _ _ _ _ _ _ _ _) (ci := 8) rfl 2 (by decide) (hts _ q90) (fun _ h9 => h9) rfl dJ2_add_17 ?_
  refine m_cpv (m_rV (As := [.ref q, .ref el, .int (nI cn)]) (rest := []) hcf (k_J2_add_2_r l g A B i a (md + 1) el cn cap f hcc hc1 k1 n1 q ci w r vs hq hk5 hk6 hc hca) (cwV 3 hts (lw_V q685 q687 qs10 q38 q688) rfl rfl rfl (by decide +kernel) ⟨Nat.le_of_ble_eq_true rfl, Nat.le_of_ble_eq_true rfl⟩) hE hA hM hS 5 i (liM_l _ _ _ _ _ _ _ _ _) (ci := 8) rfl rfl hl.1 rfl (Nat.le_of_ble_eq_true rfl) dJ2_add_20 ⟨Nat.le_of_ble_eq_true rfl, Nat.le_of_ble_eq_true rfl⟩) hS (fun H locs hM hS => ?_)
  refine lv_iconst (v := 1) hx hb dJ2_add_23 (by decide) ?_
  rw [← hQ]
  exact m_iret () hx hb hr rfl hlk hM hS (by first | rfl) (by first | decide | omega) (by first | decide | omega) dJ2_add_24

abbrev rm_J2_add_m : Room := { frames := 6, cells := 1, slots := 100, locals := 170 }
set_option maxHeartbeats 400000 in
theorem k_J2_add_m (l : Launch) (g : GG) (A : Nat → Prop) (B : MM) (i a : Nat) (md : Int32) (el cn cap : Nat) (f : Nat → Option Nat) (hcc : cn = cap) (hc2 : 4 ≤ cap) (hc1 : cap ≤ 50) (h14 : B 14 0 = none) (hO1 : liO (liM g B i a (md + 1) el cn cap f) cap f) (k1 n1 q ci w : Nat) (r : vw_C) (vs : List Value) (hq : B k1 n1 = some (q, .inr (ci, vs))) (hk5 : k1 ≠ 5) (hk6 : k1 ≠ 6) (hc : clW[ci]? = some r) (hca : ambW[w]? = some (.castable r.1 "java/lang/Object")) : Met l yJ2_add (ws_ yJ2_add cJ2_add 2 (some .boolean)) rm_J2_add_m (va_Pc [.ref a, .ref q] (mPre g A (liM g B i a md el cn cap f))) (va_Qi (fun (r9 : Int32) (_ : Nat) => r9 = 1) (fun eN t => mW g.1 A (liM g B i a (md + 1) eN (cn + 1) (cap + cap / 2) (va_up (cpyF cap f) cn (some q))) t.heap) A) 1 100 A := by
  refine m_start RJ2 rfl (by decide) (Nat.le_of_ble_eq_true rfl) ?_
  intro p e s m args below meth c hcf hr hlk hnm hE hA H locs hM hS ls hl
  have hx := hcf.1
  have hb := hcf.2.1
  have hml := hcf.2.2.1
  have hown := hcf.2.2.2.1
  have hts := hcf.2.2.2.2
  have hl : lv_has ls 2 [(0, .ref a), (1, .ref q)] := hl
  generalize hQ : MQ below (va_Qi (fun (r9 : Int32) (_ : Nat) => r9 = 1) (fun eN t => mW g.1 A (liM g B i a (md + 1) eN (cn + 1) (cap + cap / 2) (va_up (cpyF cap f) cn (some q))) t.heap) A) args s 1 100 A = Q
  refine lv_aload_n hx hb dJ2_add_0 rfl (lv_at hl 0 rfl) ?_
  refine lv_dup hx hb dJ2_add_1 rfl ?_
  refine m_get hx hb hts in_J2 hown hE hM 5 i (liM_l _ _ _ _ _ _ _ _ _) (ci := 8) rfl 0 (by decide) (hts _ q92) (fun x9 h9 => u_same (hts _ q93) x9 h9) rfl dJ2_add_2 ?_
  refine lv_iconst (v := 1) hx hb dJ2_add_5 (by decide) ?_
  refine lv_iadd hx hb dJ2_add_6 ?_
  refine m_put hx hb hts in_J2 tyJ2 tyJ2_ok nmJ2 hown hE hM hS 5 i (liM_l _ _ _ _ _ _ _ _ _) (ci := 8) rfl 0 (by decide) (hts _ q92) (fun x9 h9 => u_same (hts _ q93) x9 h9) rfl (ty := .int) rfl rfl rfl (Nat.le_of_ble_eq_true rfl) (M' := liM g B i a (md + 1) el cn cap f) (liM_l _ _ _ _ _ _ _ _ _) (fun j k h9 => (liM_l2 _ _ _ _ _ _ _ _ _ _ _ _ j k h9)) dJ2_add_7 (fun H locs hM hS => ?_)
  refine lv_aload_n hx hb dJ2_add_10 rfl (lv_at hl 0 rfl) ?_
  refine lv_aload_n hx hb dJ2_add_11 rfl (lv_at hl 1 rfl) ?_
  refine lv_aload_n hx hb dJ2_add_12 rfl (lv_at hl 0 rfl) ?_
  refine m_get hx hb hts in_J2 hown hE hM 5 i (liM_l _ _ _ _ _ _ _ _ _) (ci := 8) rfl 1 (by decide) (hts _ q89) (fun _ h9 => h9) rfl dJ2_add_13 ?_
  refine lv_aload_n hx hb dJ2_add_16 rfl (lv_at hl 0 rfl) ?_
  refine m_get hx hb hts in_J2 hown hE hM 5 i (liM_l _ _ _ _ _ _ _ _ _) (ci := 8) rfl 2 (by decide) (hts _ q90) (fun _ h9 => h9) rfl dJ2_add_17 ?_
  refine m_cv (m_rV (As := [.ref q, .ref el, .int (nI cn)]) (rest := []) hcf (k_J2_add_2_m l g A B i a (md + 1) el cn cap f hcc hc2 hc1 h14 hO1 k1 n1 q ci w r vs hq hk5 hk6 hc hca) (cwV 3 hts (lw_V q685 q687 qs10 q38 q688) rfl rfl rfl (by decide +kernel) ⟨Nat.le_of_ble_eq_true rfl, Nat.le_of_ble_eq_true rfl⟩) hE hA hM hS 5 i (liM_l _ _ _ _ _ _ _ _ _) (ci := 8) rfl rfl hl.1 rfl (Nat.le_of_ble_eq_true rfl) dJ2_add_20 ⟨Nat.le_of_ble_eq_true rfl, Nat.le_of_ble_eq_true rfl⟩) hS (fun eN H locs _ hM hS => ?_)
  refine lv_iconst (v := 1) hx hb dJ2_add_23 (by decide) ?_
  rw [← hQ]
  exact m_iret eN hx hb hr (by first | rfl | exact rfl) hlk hM hS (by first | rfl) (by first | decide | omega) (by first | decide | omega) dJ2_add_24

abbrev rm_J2_add_f : Room := { frames := 4, cells := 1, slots := 10, locals := 87 }
set_option maxHeartbeats 400000 in
theorem k_J2_add_f (l : Launch) (g : GG) (A : Nat → Prop) (B : MM) (i a : Nat) (md : Int32) (h6 : B 6 i = none) (k1 n1 q ci w : Nat) (r : vw_C) (vs : List Value) (hq : B k1 n1 = some (q, .inr (ci, vs))) (hk5 : k1 ≠ 5) (hk6 : k1 ≠ 6) (hc : clW[ci]? = some r) (hca : ambW[w]? = some (.castable r.1 "java/lang/Object")) : Met l yJ2_add (ws_ yJ2_add cJ2_add 2 (some .boolean)) rm_J2_add_f (va_Pc [.ref a, .ref q] (mPre g A (liL g B i a md (g.2.2.2 3) 0))) (va_Qi (fun (r9 : Int32) (_ : Nat) => r9 = 1) (fun eN t => mW g.1 A (liM g B i a (md + 1) eN 1 10 (va_up (fun _ => none) 0 (some q))) t.heap) A) 1 10 A := by
  refine m_start RJ2 rfl (by decide) (Nat.le_of_ble_eq_true rfl) ?_
  intro p e s m args below meth c hcf hr hlk hnm hE hA H locs hM hS ls hl
  have hx := hcf.1
  have hb := hcf.2.1
  have hml := hcf.2.2.1
  have hown := hcf.2.2.2.1
  have hts := hcf.2.2.2.2
  have hl : lv_has ls 2 [(0, .ref a), (1, .ref q)] := hl
  generalize hQ : MQ below (va_Qi (fun (r9 : Int32) (_ : Nat) => r9 = 1) (fun eN t => mW g.1 A (liM g B i a (md + 1) eN 1 10 (va_up (fun _ => none) 0 (some q))) t.heap) A) args s 1 10 A = Q
  refine lv_aload_n hx hb dJ2_add_0 rfl (lv_at hl 0 rfl) ?_
  refine lv_dup hx hb dJ2_add_1 rfl ?_
  refine m_get hx hb hts in_J2 hown hE hM 5 i (mUp_self _ _ _ _) (ci := 8) rfl 0 (by decide) (hts _ q92) (fun x9 h9 => u_same (hts _ q93) x9 h9) rfl dJ2_add_2 ?_
  refine lv_iconst (v := 1) hx hb dJ2_add_5 (by decide) ?_
  refine lv_iadd hx hb dJ2_add_6 ?_
  refine m_put hx hb hts in_J2 tyJ2 tyJ2_ok nmJ2 hown hE hM hS 5 i (mUp_self _ _ _ _) (ci := 8) rfl 0 (by decide) (hts _ q92) (fun x9 h9 => u_same (hts _ q93) x9 h9) rfl (ty := .int) rfl rfl rfl (Nat.le_of_ble_eq_true rfl) (M' := liL g B i a (md + 1) (g.2.2.2 3) 0) (mUp_self _ _ _ _) (fun j k h9 => (mUp_ne _ _ h9).trans (mUp_ne _ _ h9).symm) dJ2_add_7 (fun H locs hM hS => ?_)
  refine lv_aload_n hx hb dJ2_add_10 rfl (lv_at hl 0 rfl) ?_
  refine lv_aload_n hx hb dJ2_add_11 rfl (lv_at hl 1 rfl) ?_
  refine lv_aload_n hx hb dJ2_add_12 rfl (lv_at hl 0 rfl) ?_
  refine m_get hx hb hts in_J2 hown hE hM 5 i (mUp_self _ _ _ _) (ci := 8) rfl 1 (by decide) (hts _ q89) (fun _ h9 => h9) rfl dJ2_add_13 ?_
  refine lv_aload_n hx hb dJ2_add_16 rfl (lv_at hl 0 rfl) ?_
  refine m_get hx hb hts in_J2 hown hE hM 5 i (mUp_self _ _ _ _) (ci := 8) rfl 2 (by decide) (hts _ q90) (fun _ h9 => h9) rfl dJ2_add_17 ?_
  refine m_cv (m_rV (As := [.ref q, .ref (g.2.2.2 3), .int (nI 0)]) (rest := []) hcf (k_J2_add_2_f l g A B i a (md + 1) h6 k1 n1 q ci w r vs hq hk5 hk6 hc hca) (cwV 3 hts (lw_V q685 q687 qs10 q38 q688) rfl rfl rfl (by decide +kernel) ⟨Nat.le_of_ble_eq_true rfl, Nat.le_of_ble_eq_true rfl⟩) hE hA hM hS 5 i (mUp_self _ _ _ _) (ci := 8) rfl rfl hl.1 rfl (Nat.le_of_ble_eq_true rfl) dJ2_add_20 ⟨Nat.le_of_ble_eq_true rfl, Nat.le_of_ble_eq_true rfl⟩) hS (fun eN H locs _ hM hS => ?_)
  refine lv_iconst (v := 1) hx hb dJ2_add_23 (by decide) ?_
  rw [← hQ]
  exact m_iret eN hx hb hr (by first | rfl | exact rfl) hlk hM hS (by first | rfl) (by first | decide | omega) (by first | decide | omega) dJ2_add_24
