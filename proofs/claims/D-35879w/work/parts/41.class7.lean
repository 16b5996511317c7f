/-! lists that grow: newLength, copyOf, grow, add -/
set_option maxRecDepth 100000
/-- what may lie in a list: objects of ours whose class is below Object -/
def liO (B : MM) (cap : Nat) (f : Nat → Option Nat) : Prop := ∀ i, i < cap → ∀ y, f i = some y → ∃ (k n ci w : Nat) (r : vw_C) (vs : List Value), B k n = some (y, .inr (ci, vs)) ∧ clW[ci]? = some r ∧ ambW[w]? = some (.castable r.1 "java/lang/Object")
theorem liO_el {g : GG} {A : Nat → Prop} {s : State} {H9 H : Heap} {B : MM} {cap : Nat} {f : Nat → Option Nat} (hE : amb g A s H9) (hM : mW g.1 A B H) (h : liO B cap f) : ∀ i : Nat, i < cap → ∀ y : Nat, f i = some y → ∃ C : String, va_Nw (.castable C "java/lang/Object") s ∧ ∃ cellV : Cell, H[y]? = some cellV ∧ cellV.vm.isStatics = false ∧ s.vm.findClass C = some cellV.cls := by
  intro i hi y hy
  obtain ⟨k, n, ci, w, r, vs, h1, h2, h3⟩ := h i hi y hy
  obtain ⟨C, T, N⟩ := r
  exact ⟨C, hE.nw w h3, m_recv hE hM h1 h2⟩
def cpyF (cap : Nat) (f : Nat → Option Nat) : Nat → Option Nat := fun j => if j < cap then f j else none
theorem jmax_1 : ∀ b, b < 101 → 2 ≤ b → jmax 1 (nI b) = nI b := by decide +kernel
theorem jmin_c : ∀ a, a < 101 → ∀ b, b < 101 → a ≤ b → jmin (nI a) (nI b) = nI a := by decide +kernel
theorem nI_soft : ∀ n, n < 201 → nI n ≤ 2147483639 := by decide +kernel
theorem ishr_1 : ∀ n, n < 101 → nI n >>> ((1 : Int32) &&& 31) = nI (n / 2) := by decide +kernel
def liL (g : GG) (B : MM) (i a : Nat) (md : Int32) (el cn : Nat) : MM := mUp B 5 i (a, .inr (8, [.int md, .ref el, .int (nI cn)]))
def liM (g : GG) (B : MM) (i a : Nat) (md : Int32) (el cn cap : Nat) (f : Nat → Option Nat) : MM := mUp (liL g B i a md el cn) 6 i (el, .inl (g.2.1 5, cap, .inr (.inr (.inr (.inr f)))))
theorem liM_l (g : GG) (B : MM) (i a : Nat) (md : Int32) (el cn cap : Nat) (f : Nat → Option Nat) : liM g B i a md el cn cap f 5 i = some (a, .inr (8, [.int md, .ref el, .int (nI cn)])) := (mUp_ne _ _ (by omega)).trans (mUp_self _ _ _ _)
theorem liM_a (g : GG) (B : MM) (i a : Nat) (md : Int32) (el cn cap : Nat) (f : Nat → Option Nat) : liM g B i a md el cn cap f 6 i = some (el, .inl (g.2.1 5, cap, .inr (.inr (.inr (.inr f))))) := mUp_self _ _ _ _
theorem liM_o (g : GG) (B : MM) (i a : Nat) (md : Int32) (el cn cap : Nat) (f : Nat → Option Nat) {j k : Nat} (h5 : ¬ (j = 5 ∧ k = i)) (h6 : ¬ (j = 6 ∧ k = i)) : liM g B i a md el cn cap f j k = B j k := (mUp_ne _ _ h6).trans (mUp_ne _ _ h5)
theorem liM_l2 (g : GG) (B : MM) (i a : Nat) (md md2 : Int32) (el el2 cn cn2 cap : Nat) (f : Nat → Option Nat) (j k : Nat) (h : ¬ (j = 5 ∧ k = i)) : (mUp (liL g B i a md2 el2 cn2) 6 i (el, .inl (g.2.1 5, cap, .inr (.inr (.inr (.inr f)))))) j k = liM g B i a md el cn cap f j k := by
  unfold liM liL mUp
  by_cases h6 : j = 6 ∧ k = i
  · rw [if_pos h6, if_pos h6]
  · rw [if_neg h6, if_neg h6, if_neg h, if_neg h]
theorem liM_a2 (g : GG) (B : MM) (i a : Nat) (md : Int32) (el cn cap cap2 : Nat) (f f2 : Nat → Option Nat) (j k : Nat) (h : ¬ (j = 6 ∧ k = i)) : liM g B i a md el cn cap2 f2 j k = liM g B i a md el cn cap f j k := (mUp_ne _ _ h).trans (mUp_ne _ _ h).symm
abbrev rm_J17_newLength : Room := { frames := 1, cells := 0, slots := 0, locals := 21 }
set_option maxHeartbeats 400000 in
theorem k_J17_newLength (l : Launch) (g : GG) (A : Nat → Prop) (M : MM) (o b : Nat) (ho : o < 101) (hb2 : 2 ≤ b) (hb1 : b < 101) : Met l yJ17_newLength (ws_ yJ17_newLength cJ17_newLength 4 (some .int)) rm_J17_newLength (va_Pc [.int (nI o), .int 1, .int (nI b)] (mPre g A (M))) (pQi g A (nI (o + b)) M) 0 0 A := by
  refine m_start RJ17 rfl (by decide) (Nat.le_of_ble_eq_true rfl) ?_
  intro p e s m args below meth c hcf hr hlk hnm hE hA H locs hM hS ls hl
  have hx := hcf.1
  have hb := hcf.2.1
  have hml := hcf.2.2.1
  have hown := hcf.2.2.2.1
  have hts := hcf.2.2.2.2
  have hl : lv_has ls 4 [(0, .int (nI o)), (1, .int 1), (2, .int (nI b))] := hl
  generalize hQ : MQ below (pQi g A (nI (o + b)) M) args s 0 0 A = Q
  refine lv_iload_n hx hb dJ17_newLength_0 rfl (lv_at hl 0 rfl) ?_
  refine lv_iload_n hx hb dJ17_newLength_1 rfl (lv_at hl 1 rfl) ?_
  refine lv_iload_n hx hb dJ17_newLength_2 rfl (lv_at hl 2 rfl) ?_
  refine m_cpi (m_rS (As := [.int 1, .int (nI b)]) (rest := [.int (nI o)]) hcf (k_J11_max l g A (M) 1 (nI b)) (va_cwS 2 hts (lw_S q700 q513 q50 q514) rfl rfl rfl (by decide +kernel) ⟨Nat.le_of_ble_eq_true rfl, Nat.le_of_ble_eq_true rfl⟩) hE hA hM hS rfl hl.1 rfl (Nat.le_of_ble_eq_true rfl) dJ17_newLength_3 ⟨Nat.le_of_ble_eq_true rfl, Nat.le_of_ble_eq_true rfl⟩) hS (fun H locs hM hS => ?_)
  refine m_topI (y := nI b) (jmax_1 b hb1 hb2) ?_
  refine lv_iadd hx hb dJ17_newLength_6 ?_
  refine m_topI (y := nI (o + b)) (nI_add o b) ?_
  refine lv_istore_n (lv' := [(3, .int (nI (o + b))), (0, .int (nI o)), (1, .int 1), (2, .int (nI b))]) hx hb dJ17_newLength_7 rfl hl (by decide) rfl (fun ls hl => ?_)
  refine lv_iconst (v := 0) hx hb dJ17_newLength_8 (by decide) ?_
  refine lv_iload_n hx hb dJ17_newLength_9 rfl (lv_at hl 0 rfl) ?_
  refine lv_icmp_ge (tgt := 21) hx hb dJ17_newLength_10 (by decide) (fun c9 => absurd c9 (fun z => nI_ge (a := 0) (b := o + b) (by omega) (by omega) z)) (fun _ => ?_)
  refine lv_iload_n hx hb dJ17_newLength_13 rfl (lv_at hl 0 rfl) ?_
  refine lv_ldc hx hb hown (hts _ q701) dJ17_newLength_14 ?_
  refine lv_icmp_gt (tgt := 21) hx hb dJ17_newLength_16 (by decide) (fun c9 => absurd c9 (fun z => Int32.not_lt.mpr (nI_soft (o + b) (by omega)) z)) (fun _ => ?_)
  refine lv_iload_n hx hb dJ17_newLength_19 rfl (lv_at hl 0 rfl) ?_
  rw [← hQ]
  exact m_iret () hx hb hr rfl hlk hM hS (by first | rfl) (by first | decide | omega) (by first | decide | omega) dJ17_newLength_20

abbrev rm_J18_copyOf_2 : Room := { frames := 1, cells := 1, slots := 100, locals := 60 }
set_option maxHeartbeats 400000 in
theorem k_J18_copyOf_2 (l : Launch) (g : GG) (A : Nat → Prop) (B : MM) (ka na el cap nn : Nat) (f : Nat → Option Nat) (hB : B ka na = some (el, .inl (g.2.1 5, cap, .inr (.inr (.inr (.inr f)))))) (h14 : B 14 0 = none) (hne : ka ≠ 14) (hO : liO B cap f) (hcn : cap ≤ nn) (hn1 : nn < 101) : Met l yJ18_copyOf_2 (ws_ yJ18_copyOf_2 cJ18_copyOf_2 4 (some (.array (.object "java/lang/Object")))) rm_J18_copyOf_2 (va_Pc [.ref el, .int (nI nn), .ref (g.2.2.2 7)] (mPre g A (B))) (va_Qr (fun (_ : Nat) => True) (fun eN v t => v = eN ∧ mW g.1 A (mUp B 14 0 (eN, .inl (g.2.1 5, nn, .inr (.inr (.inr (.inr (cpyF cap f))))))) t.heap) A) 1 100 A := by
  refine m_start RJ18 rfl (by decide) (Nat.le_of_ble_eq_true rfl) ?_
  intro p e s m args below meth c hcf hr hlk hnm hE hA H locs hM hS ls hl
  have hx := hcf.1
  have hb := hcf.2.1
  have hml := hcf.2.2.1
  have hown := hcf.2.2.2.1
  have hts := hcf.2.2.2.2
  have hl : lv_has ls 4 [(0, .ref el), (1, .int (nI nn)), (2, .ref (g.2.2.2 7))] := hl
  generalize hQ : MQ below (va_Qr (fun (_ : Nat) => True) (fun eN v t => v = eN ∧ mW g.1 A (mUp B 14 0 (eN, .inl (g.2.1 5, nn, .inr (.inr (.inr (.inr (cpyF cap f))))))) t.heap) A) args s 1 100 A = Q
  refine lv_aload_n hx hb dJ18_copyOf_2_0 rfl (lv_at hl 2 rfl) ?_
  refine va_ldcM hx hb hown (hts _ q730) hE.X.2.2.2.2.2.2.2.1 dJ18_copyOf_2_1 ?_
  refine lv_acmp_ne (tgt := 13) (rx := some (g.2.2.2 7)) (ry := some (g.2.2.2 7)) hx hb dJ18_copyOf_2_3 (by decide) (fun c9 => absurd rfl c9) (fun _ => ?_)
  refine lv_iload_n hx hb dJ18_copyOf_2_6 rfl (lv_at hl 1 rfl) ?_
  refine m_newq hx hb hown (hts _ q732) hE.2.2.2.2.2.2.1 hE hM hS hA 14 0 h14 5 rfl nn (nI_pos (by omega)) (nI_clamp (by omega)) (by omega) (Nat.le_of_ble_eq_true rfl) (by show 0 + nn ≤ 100; omega) dJ18_copyOf_2_7 (fun eN H heN hM hS => ?_)
  refine W.widen (k := 1) (n := 100) (by omega) (by omega) ?_
  refine lv_goto (tgt := 24) hx hb dJ18_copyOf_2_10 (by decide) ?_
  refine lv_astore_n (lv' := [(3, .ref eN), (0, .ref el), (1, .int (nI nn)), (2, .ref (g.2.2.2 7))]) hx hb dJ18_copyOf_2_24 rfl hl (by decide) rfl (fun ls hl => ?_)
  refine lv_aload_n hx hb dJ18_copyOf_2_25 rfl (lv_at hl 1 rfl) ?_
  refine lv_iconst (v := 0) hx hb dJ18_copyOf_2_26 (by decide) ?_
  refine lv_aload_n hx hb dJ18_copyOf_2_27 rfl (lv_at hl 0 rfl) ?_
  refine lv_iconst (v := 0) hx hb dJ18_copyOf_2_28 (by decide) ?_
  refine lv_aload_n hx hb dJ18_copyOf_2_29 rfl (lv_at hl 1 rfl) ?_
  refine m_alen hx hb hE hM ka na 5 (by rw [mUp_ne _ _ (fun z => hne z.1)]; exact hB) rfl (v := nI cap) rfl dJ18_copyOf_2_30 ?_
  refine lv_iload_n hx hb dJ18_copyOf_2_31 rfl (lv_at hl 2 rfl) ?_
  refine m_cpi (m_rS (As := [.int (nI cap), .int (nI nn)]) (rest := [.int 0, .ref eN, .int 0, .ref el]) hcf (k_J11_min l g A (mUp B 14 0 (eN, .inl (g.2.1 5, nn, .inr (.inr (.inr (.inr (fun _ => none))))))) (nI cap) (nI nn)) (va_cwS 2 hts (lw_S q733 q497 q50 q498) rfl rfl rfl (by decide +kernel) ⟨Nat.le_of_ble_eq_true rfl, Nat.le_of_ble_eq_true rfl⟩) hE hA hM hS rfl hl.1 rfl (Nat.le_of_ble_eq_true rfl) dJ18_copyOf_2_32 ⟨Nat.le_of_ble_eq_true rfl, Nat.le_of_ble_eq_true rfl⟩) hS (fun H locs hM hS => ?_)
  refine m_topI (y := nI cap) (jmin_c cap (by omega) nn hn1 hcn) ?_
  refine m_copyq hcf hl.1 q734 q736 q735 q61 hE hM hS ka na 14 0 (by rw [mUp_ne _ _ (fun z => hne z.1)]; exact hB) (mUp_self _ _ _ _) cap (Nat.le_refl _) hcn (by omega) rfl (fun i hi y hy => liO_el hE (hM.sub (fun k n q9 h9 => by rw [mUp_ne]; exact h9; intro z; rw [z.1, z.2, h14] at h9; cases h9)) hO i hi y hy) (by decide) (by decide) dJ18_copyOf_2_35 (M' := mUp B 14 0 (eN, .inl (g.2.1 5, nn, .inr (.inr (.inr (.inr (cpyF cap f))))))) (mUp_self _ _ _ _) (fun j i h9 => (mUp_ne _ _ h9).trans (mUp_ne _ _ h9).symm) (fun H locs hM hS => ?_)
  refine lv_aload_n hx hb dJ18_copyOf_2_38 rfl (lv_at hl 0 rfl) ?_
  rw [← hQ]
  exact m_aret eN hx hb hr (by first | exact Or.inl ⟨_, rfl⟩ | exact Or.inr ⟨_, rfl⟩) hlk hM hS trivial rfl (by first | decide | omega) (by first | decide | omega) dJ18_copyOf_2_39

abbrev rm_J18_copyOf : Room := { frames := 2, cells := 1, slots := 100, locals := 83 }
set_option maxHeartbeats 400000 in
theorem k_J18_copyOf (l : Launch) (g : GG) (A : Nat → Prop) (B : MM) (ka na el cap nn : Nat) (f : Nat → Option Nat) (hB : B ka na = some (el, .inl (g.2.1 5, cap, .inr (.inr (.inr (.inr f)))))) (h14 : B 14 0 = none) (hne : ka ≠ 14) (hO : liO B cap f) (hcn : cap ≤ nn) (hn1 : nn < 101) : Met l yJ18_copyOf (ws_ yJ18_copyOf cJ18_copyOf 2 (some (.array (.object "java/lang/Object")))) rm_J18_copyOf (va_Pc [.ref el, .int (nI nn)] (mPre g A (B))) (va_Qr (fun (_ : Nat) => True) (fun eN v t => v = eN ∧ mW g.1 A (mUp B 14 0 (eN, .inl (g.2.1 5, nn, .inr (.inr (.inr (.inr (cpyF cap f))))))) t.heap) A) 1 100 A := by
  refine m_start RJ18 rfl (by decide) (Nat.le_of_ble_eq_true rfl) ?_
  intro p e s m args below meth c hcf hr hlk hnm hE hA H locs hM hS ls hl
  have hx := hcf.1
  have hb := hcf.2.1
  have hml := hcf.2.2.1
  have hown := hcf.2.2.2.1
  have hts := hcf.2.2.2.2
  have hl : lv_has ls 2 [(0, .ref el), (1, .int (nI nn))] := hl
  generalize hQ : MQ below (va_Qr (fun (_ : Nat) => True) (fun eN v t => v = eN ∧ mW g.1 A (mUp B 14 0 (eN, .inl (g.2.1 5, nn, .inr (.inr (.inr (.inr (cpyF cap f))))))) t.heap) A) args s 1 100 A = Q
  refine lv_aload_n hx hb dJ18_copyOf_0 rfl (lv_at hl 0 rfl) ?_
  refine lv_iload_n hx hb dJ18_copyOf_1 rfl (lv_at hl 1 rfl) ?_
  refine lv_aload_n hx hb dJ18_copyOf_2 rfl (lv_at hl 0 rfl) ?_
  refine va_getC hx hb (by rw [hml]; exact hl.1.symm) hown (hts _ q708) (va_Nw.use rfl (hE.nw 22 rfl)) (hts _ q1226) (hts _ q709) (hts _ q726) hE.X.2.2.2.2.2.2.2.1 ⟨_, hM.at hB, rfl, va_nmO (hE.1.2 5 _ rfl).2 rfl⟩ (Nat.le_of_ble_eq_true rfl) (Nat.le_of_ble_eq_true rfl) dJ18_copyOf_3 ?_
  refine m_cr (m_rS (As := [.ref el, .int (nI nn), .ref (g.2.2.2 7)]) (rest := []) hcf (k_J18_copyOf_2 l g A B ka na el cap nn f hB h14 hne hO hcn hn1) (va_cwS 3 hts (lw_S q727 q728 q60 q729) rfl rfl rfl (by decide +kernel) ⟨Nat.le_of_ble_eq_true rfl, Nat.le_of_ble_eq_true rfl⟩) hE hA hM hS rfl hl.1 rfl (Nat.le_of_ble_eq_true rfl) dJ18_copyOf_6 ⟨Nat.le_of_ble_eq_true rfl, Nat.le_of_ble_eq_true rfl⟩) hS (fun eN v9 H locs _ hv hM hS => ?_)
  rw [hv]
  rw [← hQ]
  exact m_aret eN hx hb hr (by first | exact Or.inl ⟨_, rfl⟩ | exact Or.inr ⟨_, rfl⟩) hlk hM hS trivial rfl (by first | decide | omega) (by first | decide | omega) dJ18_copyOf_9
