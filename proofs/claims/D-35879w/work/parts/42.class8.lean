/-! lists: grow, add -/
set_option maxRecDepth 100000
/-- an object is held at another place -/
theorem mW.mv {D : va_G} {A : Nat → Prop} {M : MM} {H : Heap} {k0 n0 k1 n1 : Nat} {q : Nat × va_E} (h : mW D A (mUp M k1 n1 q) H) (h1 : M k1 n1 = none) : mW D A (mUp M k0 n0 q) H := by
  have key : ∀ (k n : Nat) (z : Nat × va_E), mUp M k0 n0 q k n = some z → ∃ k' n', mUp M k1 n1 q k' n' = some z ∧ ((k = k0 ∧ n = n0 ∧ k' = k1 ∧ n' = n1) ∨ (¬ (k = k0 ∧ n = n0) ∧ ¬ (k' = k1 ∧ n' = n1) ∧ k' = k ∧ n' = n)) := by
    intro k n z hz
    by_cases hc : k = k0 ∧ n = n0
    · obtain ⟨rfl, rfl⟩ := hc
      rw [mUp_self] at hz
      exact ⟨k1, n1, by rw [mUp_self]; exact hz, Or.inl ⟨rfl, rfl, rfl, rfl⟩⟩
    · rw [mUp_ne _ _ hc] at hz
      have hd : ¬ (k = k1 ∧ n = n1) := by
        rintro ⟨rfl, rfl⟩
        rw [h1] at hz
        cases hz
      exact ⟨k, n, by rw [mUp_ne _ _ hd]; exact hz, Or.inr ⟨hc, hd, rfl, rfl⟩⟩
  refine ⟨fun k n z hz => ?_, fun k n j i x y hx hy e => ?_⟩
  · obtain ⟨k', n', g1, -⟩ := key k n z hz
    exact h.1 k' n' z g1
  · obtain ⟨k', n', g1, g2⟩ := key k n x hx
    obtain ⟨j', i', g3, g4⟩ := key j i y hy
    have := h.2 k' n' j' i' x y g1 g3 e
    omega
theorem liM_mv {g : GG} {B : MM} {i a : Nat} {md : Int32} {el eN cn cap cap2 : Nat} {f f2 : Nat → Option Nat} {D : va_G} {A : Nat → Prop} {H : Heap} (h14 : B 14 0 = none) (h : mW D A (mUp (mUp (liL g B i a md eN cn) 6 i (el, .inl (g.2.1 5, cap, .inr (.inr (.inr (.inr f)))))) 14 0 (eN, .inl (g.2.1 5, cap2, .inr (.inr (.inr (.inr f2)))))) H) : mW D A (liM g B i a md eN cn cap2 f2) H := by
  refine (h.mv (k0 := 6) (n0 := i) ?_).congr (fun j k => ?_)
  · rw [mUp_ne _ _ (by omega)]
    unfold liL
    rw [mUp_ne _ _ (by omega)]
    exact h14
  · unfold liM
    by_cases h6 : j = 6 ∧ k = i
    · obtain ⟨rfl, rfl⟩ := h6
      rw [mUp_self, mUp_self]
    · rw [mUp_ne _ _ h6, mUp_ne _ _ h6, mUp_ne _ _ h6]
theorem liM_14 {g : GG} {B : MM} (i a : Nat) (md : Int32) (el cn cap : Nat) (f : Nat → Option Nat) (h14 : B 14 0 = none) : liM g B i a md el cn cap f 14 0 = none := (liM_o g B i a md el cn cap f (by omega) (by omega)).trans h14
theorem jmax_10 : jmax 10 (nI 1) = 10 := by decide +kernel
theorem mUp_cong {M N : MM} {k n k0 n0 : Nat} {q : Nat × va_E} (h : ∀ j i, ¬ (j = k0 ∧ i = n0) → M j i = N j i) : ∀ j i, ¬ (j = k0 ∧ i = n0) → mUp M k n q j i = mUp N k n q j i := by
  intro j i hj
  unfold mUp
  by_cases h1 : j = k ∧ i = n
  · rw [if_pos h1, if_pos h1]
  · rw [if_neg h1, if_neg h1, h j i hj]
abbrev rm_J2_grow_2_m : Room := { frames := 3, cells := 1, slots := 100, locals := 104 }
set_option maxHeartbeats 400000 in
theorem k_J2_grow_2_m (l : Launch) (g : GG) (A : Nat → Prop) (B : MM) (i a : Nat) (md : Int32) (el cn cap : Nat) (f : Nat → Option Nat) (hcc : cn = cap) (hc2 : 4 ≤ cap) (hc1 : cap ≤ 50) (h14 : B 14 0 = none) (hO : liO (liM g B i a md el cn cap f) cap f) : Met l yJ2_grow_2 (ws_ yJ2_grow_2 cJ2_grow_2 4 (some (.array (.object "java/lang/Object")))) rm_J2_grow_2_m (va_Pc [.ref a, .int (nI (cn + 1))] (mPre g A (liM g B i a md el cn cap f))) (va_Qr (fun (_ : Nat) => True) (fun eN v t => v = eN ∧ mW g.1 A (liM g B i a md eN cn (cap + cap / 2) (cpyF cap f)) t.heap) A) 1 100 A := by
  refine m_start RJ2 rfl (by decide) (Nat.le_of_ble_eq_true rfl) ?_
  intro p e s m args below meth c hcf hr hlk hnm hE hA H locs hM hS ls hl
  have hx := hcf.1
  have hb := hcf.2.1
  have hml := hcf.2.2.1
  have hown := hcf.2.2.2.1
  have hts := hcf.2.2.2.2
  have hl : lv_has ls 4 [(0, .ref a), (1, .int (nI (cn + 1)))] := hl
  generalize hQ : MQ below (va_Qr (fun (_ : Nat) => True) (fun eN v t => v = eN ∧ mW g.1 A (liM g B i a md eN cn (cap + cap / 2) (cpyF cap f)) t.heap) A) args s 1 100 A = Q
  refine lv_aload_n hx hb dJ2_grow_2_0 rfl (lv_at hl 0 rfl) ?_
  refine m_get hx hb hts in_J2 hown hE hM 5 i (liM_l _ _ _ _ _ _ _ _ _) (ci := 8) rfl 1 (by decide) (hts _ q89) (fun _ h9 => h9) rfl dJ2_grow_2_1 ?_
  refine m_alen hx hb hE hM 6 i 5 (liM_a _ _ _ _ _ _ _ _ _) rfl (v := nI cap) rfl dJ2_grow_2_4 ?_
  refine lv_istore_n (lv' := [(2, .int (nI cap)), (0, .ref a), (1, .int (nI (cn + 1)))]) hx hb dJ2_grow_2_5 rfl hl (by decide) rfl (fun ls hl => ?_)
  refine lv_iload_n hx hb dJ2_grow_2_6 rfl (lv_at hl 0 rfl) ?_
  refine lv_if_gt (tgt := 20) hx hb dJ2_grow_2_7 (by decide) (fun _ => ?_) (fun c9 => absurd (nI_lt (a := 0) (b := cap) (by omega) (by omega)) c9)
  refine lv_iload_n hx hb dJ2_grow_2_20 rfl (lv_at hl 0 rfl) ?_
  refine lv_iload_n hx hb dJ2_grow_2_21 rfl (lv_at hl 2 rfl) ?_
  refine lv_iload_n hx hb dJ2_grow_2_22 rfl (lv_at hl 0 rfl) ?_
  refine lv_isub hx hb dJ2_grow_2_23 ?_
  refine m_topI (y := 1) (by rw [hcc]; exact (pk_sub (by omega)).trans (by rw [Nat.add_sub_cancel_left]; rfl)) ?_
  refine lv_iload_n hx hb dJ2_grow_2_24 rfl (lv_at hl 0 rfl) ?_
  refine lv_iconst (v := 1) hx hb dJ2_grow_2_25 (by decide) ?_
  refine lv_ishr hx hb dJ2_grow_2_26 ?_
  refine m_topI (y := nI (cap / 2)) (ishr_1 _ (by omega)) ?_
  refine m_cpi (m_rS (As := [.int (nI cap), .int 1, .int (nI (cap / 2))]) (rest := []) hcf (k_J17_newLength l g A (liM g B i a md el cn cap f) cap (cap / 2) (by omega) (by omega) (by omega)) (va_cwS 3 hts (lw_S q697 q698 q59 q699) rfl rfl rfl (by decide +kernel) ⟨Nat.le_of_ble_eq_true rfl, Nat.le_of_ble_eq_true rfl⟩) hE hA hM hS rfl hl.1 rfl (Nat.le_of_ble_eq_true rfl) dJ2_grow_2_27 ⟨Nat.le_of_ble_eq_true rfl, Nat.le_of_ble_eq_true rfl⟩) hS (fun H locs hM hS => ?_)
  refine lv_istore_n (lv' := [(3, .int (nI (cap + (cap / 2)))), (2, .int (nI cap)), (0, .ref a), (1, .int (nI (cn + 1)))]) hx hb dJ2_grow_2_30 rfl hl (by decide) rfl (fun ls hl => ?_)
  refine lv_aload_n hx hb dJ2_grow_2_31 rfl (lv_at hl 2 rfl) ?_
  refine lv_aload_n hx hb dJ2_grow_2_32 rfl (lv_at hl 2 rfl) ?_
  refine m_get hx hb hts in_J2 hown hE hM 5 i (liM_l _ _ _ _ _ _ _ _ _) (ci := 8) rfl 1 (by decide) (hts _ q89) (fun _ h9 => h9) rfl dJ2_grow_2_33 ?_
  refine lv_iload_n hx hb dJ2_grow_2_36 rfl (lv_at hl 0 rfl) ?_
  refine m_cr (m_rS (As := [.ref el, .int (nI (cap + (cap / 2)))]) (rest := [.ref a]) hcf (k_J18_copyOf l g A (liM g B i a md el cn cap f) 6 i el cap (cap + (cap / 2)) f (liM_a _ _ _ _ _ _ _ _ _) (liM_14 _ _ _ _ _ _ _ h14) (by decide) hO (by omega) (by omega)) (va_cwS 2 hts (lw_S q705 q706 q60 q707) rfl rfl rfl (by decide +kernel) ⟨Nat.le_of_ble_eq_true rfl, Nat.le_of_ble_eq_true rfl⟩) hE hA hM hS rfl hl.1 rfl (Nat.le_of_ble_eq_true rfl) dJ2_grow_2_37 ⟨Nat.le_of_ble_eq_true rfl, Nat.le_of_ble_eq_true rfl⟩) hS (fun eN v9 H locs _ hv hM hS => ?_)
  rw [hv]
  refine lv_dup_x1 hx hb dJ2_grow_2_40 rfl rfl ?_
  refine m_put hx hb hts in_J2 tyJ2 tyJ2_ok nmJ2 hown hE hM hS 5 i ((mUp_ne _ _ (by omega)).trans (liM_l _ _ _ _ _ _ _ _ _)) (ci := 8) rfl 1 (by decide) (hts _ q89) (fun _ h9 => h9) rfl (ty := .array (.object "java/lang/Object")) rfl rfl rfl (Nat.le_of_ble_eq_true rfl) (M' := mUp (mUp (liL g B i a md eN cn) 6 i (el, .inl (g.2.1 5, cap, .inr (.inr (.inr (.inr f)))))) 14 0 (eN, .inl (g.2.1 5, (cap + (cap / 2)), .inr (.inr (.inr (.inr (cpyF cap f))))))) ((mUp_ne _ _ (by omega)).trans ((mUp_ne _ _ (by omega)).trans (mUp_self _ _ _ _))) (fun j k h9 => (mUp_cong (fun j k h9 => by unfold liM; exact mUp_cong (fun j k h9 => (mUp_ne _ _ h9).trans (mUp_ne _ _ h9).symm) j k h9) j k h9)) dJ2_grow_2_41 (fun H locs hM hS => ?_)
  rw [← hQ]
  exact m_aret eN hx hb hr (by first | exact Or.inl ⟨_, rfl⟩ | exact Or.inr ⟨_, rfl⟩) hlk (liM_mv h14 hM) hS trivial rfl (by first | decide | omega) (by first | decide | omega) dJ2_grow_2_44

abbrev rm_J2_grow_2_f : Room := { frames := 1, cells := 1, slots := 10, locals := 21 }
set_option maxHeartbeats 400000 in
theorem k_J2_grow_2_f (l : Launch) (g : GG) (A : Nat → Prop) (B : MM) (i a : Nat) (md : Int32) (h6 : B 6 i = none) : Met l yJ2_grow_2 (ws_ yJ2_grow_2 cJ2_grow_2 4 (some (.array (.object "java/lang/Object")))) rm_J2_grow_2_f (va_Pc [.ref a, .int (nI 1)] (mPre g A (liL g B i a md (g.2.2.2 3) 0))) (va_Qr (fun (_ : Nat) => True) (fun eN v t => v = eN ∧ mW g.1 A (liM g B i a md eN 0 10 (fun _ => none)) t.heap) A) 1 10 A := by
  refine m_start RJ2 rfl (by decide) (Nat.le_of_ble_eq_true rfl) ?_
  intro p e s m args below meth c hcf hr hlk hnm hE hA H locs hM hS ls hl
  have hx := hcf.1
  have hb := hcf.2.1
  have hml := hcf.2.2.1
  have hown := hcf.2.2.2.1
  have hts := hcf.2.2.2.2
  have hl : lv_has ls 4 [(0, .ref a), (1, .int (nI 1))] := hl
  generalize hQ : MQ below (va_Qr (fun (_ : Nat) => True) (fun eN v t => v = eN ∧ mW g.1 A (liM g B i a md eN 0 10 (fun _ => none)) t.heap) A) args s 1 10 A = Q
  refine lv_aload_n hx hb dJ2_grow_2_0 rfl (lv_at hl 0 rfl) ?_
  refine m_get hx hb hts in_J2 hown hE hM 5 i (mUp_self _ _ _ _) (ci := 8) rfl 1 (by decide) (hts _ q89) (fun _ h9 => h9) rfl dJ2_grow_2_1 ?_
  refine va_tlen hx hb hE.2.1.2.2.2.2.2.2.2.2.2.1 hS (v := 0) rfl dJ2_grow_2_4 ?_
  refine lv_istore_n (lv' := [(2, .int 0), (0, .ref a), (1, .int (nI 1))]) hx hb dJ2_grow_2_5 rfl hl (by decide) rfl (fun ls hl => ?_)
  refine lv_iload_n hx hb dJ2_grow_2_6 rfl (lv_at hl 0 rfl) ?_
  refine lv_if_gt (tgt := 20) hx hb dJ2_grow_2_7 (by decide) (fun c9 => absurd c9 (by decide)) (fun _ => ?_)
  refine lv_aload_n hx hb dJ2_grow_2_10 rfl (lv_at hl 1 rfl) ?_
  refine m_get hx hb hts in_J2 hown hE hM 5 i (mUp_self _ _ _ _) (ci := 8) rfl 1 (by decide) (hts _ q89) (fun _ h9 => h9) rfl dJ2_grow_2_11 ?_
  refine va_gets hx hb hE.2.1.2.2.2.2.2.2.2.2.1 hS hown (hts _ q87) (fun _ h9 => h9) dJ2_grow_2_14 ?_
  refine lv_acmp_eq (tgt := 45) (rx := some (g.2.2.2 3)) (ry := some (g.2.2.2 3)) hx hb dJ2_grow_2_17 (by decide) (fun _ => ?_) (fun c9 => absurd rfl c9)
  refine lv_aload_n hx hb dJ2_grow_2_45 rfl (lv_at hl 1 rfl) ?_
  refine lv_bipush (v := 10) hx hb dJ2_grow_2_46 (by decide) ?_
  refine lv_iload_n hx hb dJ2_grow_2_48 rfl (lv_at hl 2 rfl) ?_
  refine m_cpi (m_rS (As := [.int 10, .int (nI 1)]) (rest := [.ref a]) hcf (k_J11_max l g A (liL g B i a md (g.2.2.2 3) 0) 10 (nI 1)) (va_cwS 2 hts (lw_S q737 q513 q50 q514) rfl rfl rfl (by decide +kernel) ⟨Nat.le_of_ble_eq_true rfl, Nat.le_of_ble_eq_true rfl⟩) hE hA hM hS rfl hl.1 rfl (Nat.le_of_ble_eq_true rfl) dJ2_grow_2_49 ⟨Nat.le_of_ble_eq_true rfl, Nat.le_of_ble_eq_true rfl⟩) hS (fun H locs hM hS => ?_)
  refine m_topI (y := 10) jmax_10 ?_
  refine m_newq hx hb hown (hts _ q738) hE.2.2.2.2.2.2.1 hE hM hS hA 6 i ((mUp_ne _ _ (by omega)).trans h6) 5 rfl 10 (by decide) (by decide) (by decide) (Nat.le_of_ble_eq_true rfl) (Nat.le_of_ble_eq_true rfl) dJ2_grow_2_52 (fun eN H heN hM hS => ?_)
  refine lv_dup_x1 hx hb dJ2_grow_2_55 rfl rfl ?_
  refine m_put hx hb hts in_J2 tyJ2 tyJ2_ok nmJ2 hown hE hM hS 5 i ((mUp_ne _ _ (by omega)).trans (mUp_self _ _ _ _)) (ci := 8) rfl 1 (by decide) (hts _ q89) (fun _ h9 => h9) rfl (ty := .array (.object "java/lang/Object")) rfl rfl rfl (Nat.le_of_ble_eq_true rfl) (M' := liM g B i a md eN 0 10 (fun _ => none)) (liM_l _ _ _ _ _ _ _ _ _) (fun j k h9 => (liM_l2 _ _ _ _ _ _ _ _ _ _ _ _ j k h9).symm) dJ2_grow_2_56 (fun H locs hM hS => ?_)
  rw [← hQ]
  exact m_aret eN hx hb hr (by first | exact Or.inl ⟨_, rfl⟩ | exact Or.inr ⟨_, rfl⟩) hlk hM hS trivial rfl (by first | decide | omega) (by first | decide | omega) dJ2_grow_2_59

abbrev rm_J2_grow_m : Room := { frames := 4, cells := 1, slots := 100, locals := 127 }
set_option maxHeartbeats 400000 in
theorem k_J2_grow_m (l : Launch) (g : GG) (A : Nat → Prop) (B : MM) (i a : Nat) (md : Int32) (el cn cap : Nat) (f : Nat → Option Nat) (hcc : cn = cap) (hc2 : 4 ≤ cap) (hc1 : cap ≤ 50) (h14 : B 14 0 = none) (hO : liO (liM g B i a md el cn cap f) cap f) : Met l yJ2_grow (ws_ yJ2_grow cJ2_grow 1 (some (.array (.object "java/lang/Object")))) rm_J2_grow_m (va_Pc [.ref a] (mPre g A (liM g B i a md el cn cap f))) (va_Qr (fun (_ : Nat) => True) (fun eN v t => v = eN ∧ mW g.1 A (liM g B i a md eN cn (cap + cap / 2) (cpyF cap f)) t.heap) A) 1 100 A := by
  refine m_start RJ2 rfl (by decide) (Nat.le_of_ble_eq_true rfl) ?_
  intro p e s m args below meth c hcf hr hlk hnm hE hA H locs hM hS ls hl
  have hx := hcf.1
  have hb := hcf.2.1
  have hml := hcf.2.2.1
  have hown := hcf.2.2.2.1
  have hts := hcf.2.2.2.2
  have hl : lv_has ls 1 [(0, .ref a)] := hl
  generalize hQ : MQ below (va_Qr (fun (_ : Nat) => True) (fun eN v t => v = eN ∧ mW g.1 A (liM g B i a md eN cn (cap + cap / 2) (cpyF cap f)) t.heap) A) args s 1 100 A = Q
  refine lv_aload_n hx hb dJ2_grow_0 rfl (lv_at hl 0 rfl) ?_
  refine lv_aload_n hx hb dJ2_grow_1 rfl (lv_at hl 0 rfl) ?_
  refine m_get hx hb hts in_J2 hown hE hM 5 i (liM_l _ _ _ _ _ _ _ _ _) (ci := 8) rfl 2 (by decide) (hts _ q90) (fun _ h9 => h9) rfl dJ2_grow_2 ?_
  refine lv_iconst (v := 1) hx hb dJ2_grow_5 (by decide) ?_
  refine lv_iadd hx hb dJ2_grow_6 ?_
  refine m_topI (y := nI (cn + 1)) (nI_add cn 1) ?_
  refine m_cr (m_rV (As := [.int (nI (cn + 1))]) (rest := []) hcf (k_J2_grow_2_m l g A B i a md el cn cap f hcc hc2 hc1 h14 hO) (cwV 1 hts (lw_V q693 q695 qs12 q38 q696) rfl rfl rfl (by decide +kernel) ⟨Nat.le_of_ble_eq_true rfl, Nat.le_of_ble_eq_true rfl⟩) hE hA hM hS 5 i (liM_l _ _ _ _ _ _ _ _ _) (ci := 8) rfl rfl hl.1 rfl (Nat.le_of_ble_eq_true rfl) dJ2_grow_7 ⟨Nat.le_of_ble_eq_true rfl, Nat.le_of_ble_eq_true rfl⟩) hS (fun eN v9 H locs _ hv hM hS => ?_)
  rw [hv]
  rw [← hQ]
  exact m_aret eN hx hb hr (by first | exact Or.inl ⟨_, rfl⟩ | exact Or.inr ⟨_, rfl⟩) hlk hM hS trivial rfl (by first | decide | omega) (by first | decide | omega) dJ2_grow_10

abbrev rm_J2_grow_f : Room := { frames := 2, cells := 1, slots := 10, locals := 44 }
set_option maxHeartbeats 400000 in
theorem k_J2_grow_f (l : Launch) (g : GG) (A : Nat → Prop) (B : MM) (i a : Nat) (md : Int32) (h6 : B 6 i = none) : Met l yJ2_grow (ws_ yJ2_grow cJ2_grow 1 (some (.array (.object "java/lang/Object")))) rm_J2_grow_f (va_Pc [.ref a] (mPre g A (liL g B i a md (g.2.2.2 3) 0))) (va_Qr (fun (_ : Nat) => True) (fun eN v t => v = eN ∧ mW g.1 A (liM g B i a md eN 0 10 (fun _ => none)) t.heap) A) 1 10 A := by
  refine m_start RJ2 rfl (by decide) (Nat.le_of_ble_eq_true rfl) ?_
  intro p e s m args below meth c hcf hr hlk hnm hE hA H locs hM hS ls hl
  have hx := hcf.1
  have hb := hcf.2.1
  have hml := hcf.2.2.1
  have hown := hcf.2.2.2.1
  have hts := hcf.2.2.2.2
  have hl : lv_has ls 1 [(0, .ref a)] := hl
  generalize hQ : MQ below (va_Qr (fun (_ : Nat) => True) (fun eN v t => v = eN ∧ mW g.1 A (liM g B i a md eN 0 10 (fun _ => none)) t.heap) A) args s 1 10 A = Q
  refine lv_aload_n hx hb dJ2_grow_0 rfl (lv_at hl 0 rfl) ?_
  refine lv_aload_n hx hb dJ2_grow_1 rfl (lv_at hl 0 rfl) ?_
  refine m_get hx hb hts in_J2 hown hE hM 5 i (mUp_self _ _ _ _) (ci := 8) rfl 2 (by decide) (hts _ q90) (fun _ h9 => h9) rfl dJ2_grow_2 ?_
  refine lv_iconst (v := 1) hx hb dJ2_grow_5 (by decide) ?_
  refine lv_iadd hx hb dJ2_grow_6 ?_
  refine m_topI (y := 1) (by decide) ?_
  refine m_cr (m_rV (As := [.int 1]) (rest := []) hcf (k_J2_grow_2_f l g A B i a md h6) (cwV 1 hts (lw_V q693 q695 qs12 q38 q696) rfl rfl rfl (by decide +kernel) ⟨Nat.le_of_ble_eq_true rfl, Nat.le_of_ble_eq_true rfl⟩) hE hA hM hS 5 i (mUp_self _ _ _ _) (ci := 8) rfl rfl hl.1 rfl (Nat.le_of_ble_eq_true rfl) dJ2_grow_7 ⟨Nat.le_of_ble_eq_true rfl, Nat.le_of_ble_eq_true rfl⟩) hS (fun eN v9 H locs _ hv hM hS => ?_)
  rw [hv]
  rw [← hQ]
  exact m_aret eN hx hb hr (by first | exact Or.inl ⟨_, rfl⟩ | exact Or.inr ⟨_, rfl⟩) hlk hM hS trivial rfl (by first | decide | omega) (by first | decide | omega) dJ2_grow_10
