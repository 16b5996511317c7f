/-! the land's own methods: lakes -/
set_option maxRecDepth 100000
theorem nbF_inv {S : Type} {k : Nat} {stp : Nat → S → S} {P : S → Prop} (hk : k < 25) (hs : ∀ w q, w < 25 → P q → P (stp w q)) : ∀ (f n : Nat) (q : S), (n < 4 → ¬ onR k n = 0) → P q → P (nbF k stp f n q) := by
  intro f
  induction f with
  | zero => intro n q _ h; exact h
  | succ f ih =>
    intro n q hon h
    by_cases h4 : 4 ≤ n
    · rw [show nbF k stp (f + 1) n q = q from if_pos h4]
      exact h
    · rw [nbF_s (by omega)]
      exact ih _ _ (skpN_on _ _ (by omega) (by omega)) (hs _ _ (nbN_ok hk (by omega) (hon (by omega))).1 h)
def cntS (y : St) : Nat := sumN (fun c => if y.1 51 c = 0 then 0 else 1) 25
theorem cntS_le (y : St) : cntS y ≤ 25 := by
  have := sumN_le (f := fun c => if y.1 51 c = 0 then 0 else 1) (h := fun _ => 1) 25 (fun c _ => by show (if y.1 51 c = 0 then 0 else 1) ≤ 1; split <;> omega)
  rw [sumN_const] at this
  exact this
theorem sumN_congr {f h : Nat → Nat} : ∀ n, (∀ i, i < n → f i = h i) → sumN f n = sumN h n := by
  intro n
  induction n with
  | zero => intro _; rfl
  | succ n ih =>
    intro hh
    show sumN f n + f n = sumN h n + h n
    rw [ih (fun i hi => hh i (by omega)), hh n (by omega)]
theorem sumN_upd {f h : Nat → Nat} {c : Nat} : ∀ n, c < n → (∀ i, i ≠ c → f i = h i) → f c = h c + 1 → sumN f n = sumN h n + 1 := by
  intro n
  induction n with
  | zero => intro h0; omega
  | succ n ih =>
    intro hc hh hf
    show sumN f n + f n = sumN h n + h n + 1
    by_cases e : c = n
    · subst e
      rw [sumN_congr c (fun i hi => hh i (by omega)), hf]
      omega
    · rw [ih (by omega) hh hf, hh n (by omega)]
      omega
theorem cntS_set {y : St} {c : Nat} (hc : c < 25) (h0 : y.1 51 c = 0) : cntS (sI y 51 c 1) = cntS y + 1 := by
  refine sumN_upd (c := c) 25 hc (fun i hi => ?_) ?_
  · show (if (sI y 51 c 1).1 51 i = 0 then 0 else 1) = if y.1 51 i = 0 then 0 else 1
    rw [show (sI y 51 c 1).1 51 i = y.1 51 i from if_neg (fun z => hi z.2)]
  · show (if (sI y 51 c 1).1 51 c = 0 then 0 else 1) = (if y.1 51 c = 0 then 0 else 1) + 1
    rw [show (sI y 51 c 1).1 51 c = 1 from if_pos ⟨rfl, rfl⟩, if_pos h0]
    rfl
theorem cntS_50 (y : St) (j : Nat) (v : Int32) : cntS (sI y 50 j v) = cntS y := rfl
/-- a look at one neighbour -/
def spS (w : Nat) (q : St × Nat) : St × Nat := if q.1.1 51 w = 0 then (if q.1.1 3 w ≤ 0 then q else (sI (sI q.1 51 w 1) 50 q.2 (nI w), q.2 + 1)) else q
def spO (k : Nat) (q : St × Nat) : St × Nat := nbF (nt q.1 50 k) spS 4 (skpN (nt q.1 50 k) 4 0) q
def spR : Nat → Nat → St × Nat → St × Nat
  | 0, _, q => q
  | f + 1, k, q => if k < q.2 then spR f (k + 1) (spO k q) else q
def sp0 (x : St) (k : Nat) : St × Nat := (sI (sI x 50 0 (nI k)) 51 k 1, 1)
def spF (x : St) (k : Nat) : St × Nat := spR 25 0 (sp0 x k)
def spI (x : St) (q : St × Nat) : Prop := q.2 + cntS x = cntS q.1 ∧ ∀ j, j < q.2 → q.1.1 50 j = nI (nt q.1 50 j) ∧ nt q.1 50 j < 25
theorem spI.le {x : St} {q : St × Nat} (h : spI x q) : q.2 ≤ 25 := by have := cntS_le q.1; have := h.1; omega
theorem spI.lt {x : St} {q : St × Nat} (h : spI x q) {w : Nat} (hw : w < 25) (h0 : q.1.1 51 w = 0) : q.2 < 25 := by
  have h1 := cntS_le (sI q.1 51 w 1)
  rw [cntS_set hw h0] at h1
  have := h.1
  omega
theorem spI.stp {x : St} {q : St × Nat} (h : spI x q) {w : Nat} (hw : w < 25) : spI x (spS w q) := by
  unfold spS
  by_cases h0 : q.1.1 51 w = 0
  · rw [if_pos h0]
    by_cases h1 : q.1.1 3 w ≤ 0
    · rw [if_pos h1]; exact h
    · rw [if_neg h1]
      refine ⟨?_, fun j hj => ?_⟩
      · show q.2 + 1 + cntS x = cntS (sI (sI q.1 51 w 1) 50 q.2 (nI w))
        rw [cntS_50, cntS_set hw h0, ← h.1]
        omega
      · show (sI (sI q.1 51 w 1) 50 q.2 (nI w)).1 50 j = nI ((sI (sI q.1 51 w 1) 50 q.2 (nI w)).1 50 j).toNatClampNeg ∧ ((sI (sI q.1 51 w 1) 50 q.2 (nI w)).1 50 j).toNatClampNeg < 25
        by_cases e : j = q.2
        · rw [show (sI (sI q.1 51 w 1) 50 q.2 (nI w)).1 50 j = nI w from if_pos ⟨rfl, e⟩, nI_clamp (by omega)]
          exact ⟨rfl, hw⟩
        · rw [show (sI (sI q.1 51 w 1) 50 q.2 (nI w)).1 50 j = q.1.1 50 j from (sI_o (fun z => e z.2)).trans (sI_o (fun z => absurd z.1 (by decide)))]
          exact h.2 j (by have hj : j < q.2 + 1 := hj; omega)
  · rw [if_neg h0]; exact h
theorem spI.o {x : St} {q : St × Nat} (h : spI x q) {k : Nat} (hk : k < q.2) : spI x (spO k q) := nbF_inv (P := spI x) (h.2 k hk).2 (fun w q hw hq => hq.stp hw) _ _ _ (skpN_on _ _ (by omega) (by omega)) h
theorem spI.r {x : St} : ∀ (f k : Nat) (q : St × Nat), spI x q → spI x (spR f k q) := by
  intro f
  induction f with
  | zero => intro k q h; exact h
  | succ f ih =>
    intro k q h
    show spI x (if k < q.2 then spR f (k + 1) (spO k q) else q)
    split
    · exact ih _ _ (h.o (by assumption))
    · exact h
theorem spI.z {x : St} {k : Nat} (hk : k < 25) (h0 : x.1 51 k = 0) : spI x (sp0 x k) := by
  refine ⟨?_, fun j hj => ?_⟩
  · show 1 + cntS x = cntS (sI (sI x 50 0 (nI k)) 51 k 1)
    rw [cntS_set hk (show (sI x 50 0 (nI k)).1 51 k = 0 from h0), cntS_50]
    omega
  · have hj : j < 1 := hj
    have e : j = 0 := by omega
    subst e
    show (sI (sI x 50 0 (nI k)) 51 k 1).1 50 0 = nI ((sI (sI x 50 0 (nI k)) 51 k 1).1 50 0).toNatClampNeg ∧ ((sI (sI x 50 0 (nI k)) 51 k 1).1 50 0).toNatClampNeg < 25
    rw [show (sI (sI x 50 0 (nI k)) 51 k 1).1 50 0 = nI k from rfl, nI_clamp (by omega)]
    exact ⟨rfl, hk⟩
theorem spF_I {x : St} {k : Nat} (hk : k < 25) (h0 : x.1 51 k = 0) : spI x (spF x k) := (spI.z hk h0).r 25 0 _
theorem fgtF_51 (x : St) : ∀ i c, c < i → (fgtF x i).1 51 c = 0 := by
  intro i
  induction i with
  | zero => intro c h; omega
  | succ i ih =>
    intro c h
    rw [fgtF_s]
    by_cases e : c = i
    · exact if_pos ⟨rfl, e⟩
    · rw [show (sI (fgtF x i) 51 i 0).1 51 c = (fgtF x i).1 51 c from if_neg (fun z => e z.2)]
      exact ih c (by omega)
/-- a lake is let out -/
def cbrL (y : St) : Nat → St × Int32 := it (fun q j => (sI q.1 3 (nt y 50 j) 0, q.2 + q.1.1 3 (nt y 50 j))) (y, 0)
theorem cbrL_s (y : St) (i : Nat) : cbrL y (i + 1) = (sI (cbrL y i).1 3 (nt y 50 i) 0, (cbrL y i).2 + (cbrL y i).1.1 3 (nt y 50 i)) := it_succ _ _ _
theorem cbrL_o (y : St) (f : Nat) (hf : f ≠ 3) : ∀ i, (cbrL y i).1.1 f = y.1 f := by
  intro i
  induction i with
  | zero => rfl
  | succ i ih =>
    rw [cbrL_s]
    exact (sI_ne _ 3 _ _ hf).trans ih
def cbrQ (x : St) (k : Nat) : St × Int32 := cbrL (spF (fgtF x 25) k).1 (spF (fgtF x 25) k).2
def brG (q : St × Int32) : St := sL q.1 29 (q.1.2 29 + q.2.toInt64)
def cbrF (x : St) (k : Nat) : St := brG (cbrQ x k)
/-- whether one of a lake's cells is deep enough -/
def ckO (y : St) : Nat → Int32 := it (fun z j => z ||| clkF y (nt y 50 j)) 0
theorem ckO_s (y : St) (j : Nat) : ckO y (j + 1) = ckO y j ||| clkF y (nt y 50 j) := it_succ _ _ _
def ckS (q : St × Int32) (i : Nat) : St × Int32 := if q.1.1 51 i = 0 then (if q.1.1 3 i ≤ 0 then q else ((spF q.1 i).1, q.2 + if ckO (spF q.1 i).1 (spF q.1 i).2 = 0 then 0 else 1)) else q
def ckL (x : St) : Nat → St × Int32 := it ckS (fgtF x 25, 0)
theorem ckL_f (x : St) : fgtF x 25 = (ckL x 0).1 := (congrArg Prod.fst (show ckL x 0 = (fgtF x 25, 0) from it_zero ckS (fgtF x 25, 0))).symm
theorem ckL_g (x : St) : (0 : Int32) = (ckL x 0).2 := (congrArg Prod.snd (show ckL x 0 = (fgtF x 25, 0) from it_zero ckS (fgtF x 25, 0))).symm
theorem ckL_s (x : St) (i : Nat) : ckL x (i + 1) = ckS (ckL x i) i := it_succ _ _ _
abbrev rm_X1_spread : Room := { frames := 4, cells := 25, slots := 50, locals := 83 }
set_option maxHeartbeats 1000000 in
theorem k_X1_spread (l : Launch) (g : GG) (A : Nat → Prop) (ad : Nat → Nat → Nat) (Mx : MM) (x : St) (k : Nat) (hk : k < 25) (h0 : x.1 51 k = 0) (hMx : Mx 20 0 = none) : Met l yX1_spread (ws_ yX1_spread cX1_spread 6 (some .int)) rm_X1_spread (va_Pc [.ref (ad 0 0), .int (nI k)] (mPre g A (cwM g ad Mx x))) (pQi g A (nI (spF x k).2) (cwM g ad Mx (spF x k).1)) 25 50 A := by
  refine m_start RX1 rfl (by decide) (Nat.le_of_ble_eq_true rfl) ?_
  intro p e s m args below meth c hcf hr hlk hnm hE hA H locs hM hS ls hl
  have hx := hcf.1
  have hb := hcf.2.1
  have hml := hcf.2.2.1
  have hown := hcf.2.2.2.1
  have hts := hcf.2.2.2.2
  have hl : lv_has ls 6 [(0, .ref (ad 0 0)), (1, .int (nI k))] := hl
  generalize hQ : MQ below (pQi g A (nI (spF x k).2) (cwM g ad Mx (spF x k).1)) args s 25 50 A = Q
  refine lv_iconst (v := 1) hx hb dX1_spread_0 (by decide) ?_
  refine lv_istore_n (lv' := [(2, .int 1), (0, .ref (ad 0 0)), (1, .int (nI k))]) hx hb dX1_spread_1 rfl hl (by decide) rfl (fun ls hl => ?_)
  refine lv_aload_n hx hb dX1_spread_2 rfl (lv_at hl 1 rfl) ?_
  refine m_get hx hb hts in_X1 hown hE hM 0 0 cw_0 (ci := 0) rfl 9 (by decide) (hts _ q189) (fun _ h9 => h9) rfl dX1_spread_3 ?_
  refine lv_iconst (v := 0) hx hb dX1_spread_6 (by decide) ?_
  refine lv_iload_n hx hb dX1_spread_7 rfl (lv_at hl 2 rfl) ?_
  refine cp_st hcf hE hM hS 0 (by omega) rfl dX1_spread_8 (fun x_2 H locs ex_3 hM hS => ?_)
  refine lv_aload_n hx hb dX1_spread_9 rfl (lv_at hl 1 rfl) ?_
  refine m_get hx hb hts in_X1 hown hE hM 0 0 cw_0 (ci := 0) rfl 8 (by decide) (hts _ q188) (fun _ h9 => h9) rfl dX1_spread_10 ?_
  refine lv_iload_n hx hb dX1_spread_13 rfl (lv_at hl 2 rfl) ?_
  refine lv_iconst (v := 1) hx hb dX1_spread_14 (by decide) ?_
  refine cs_st hcf hE hM hS k (by omega) (by decide) rfl dX1_spread_15 (fun x_4 H locs ex_5 hM hS => ?_)
  refine lv_iconst (v := 0) hx hb dX1_spread_16 (by decide) ?_
  refine lv_istore_n (lv' := [(3, .int 0), (2, .int 1), (0, .ref (ad 0 0)), (1, .int (nI k))]) hx hb dX1_spread_17 rfl hl (by decide) rfl (fun ls hl => ?_)
  have h00 : x_4 = (sp0 x k).1 := by subst ex_5 ex_3; rfl
  rw [h00] at hM
  obtain ⟨RR, hRR⟩ : ∃ y, spF x k = y := ⟨_, rfl⟩
  have X9 : ∀ kx : Nat, kx ≤ 25 → RR.2 ≤ kx → ∀ (H : Heap) (locs : List Loc) (ls : Array Slot), mW g.1 A (cwM g ad Mx RR.1) H → va_S A s.heap H locs → lv_has ls 6 [(0, .ref (ad 0 0)), (2, .int (nI RR.2)), (3, .int (nI kx))] → W p l e rm_X1_spread s m args below meth c H locs kx (2 * kx) Q (F0 m 18 ls []) := by
    intro kx hk9 hkx H locs ls hM hS hl
    refine lv_iload_n hx hb dX1_spread_18 rfl (lv_at hl 2 rfl) ?_
    refine lv_iload_n hx hb dX1_spread_19 rfl (lv_at hl 1 rfl) ?_
    refine lv_icmp_ge (tgt := 114) hx hb dX1_spread_20 (by decide) (fun _ => ?_) (fun c9 => absurd (nI_le hkx (by omega)) c9)
    refine lv_iload_n hx hb dX1_spread_114 rfl (lv_at hl 1 rfl) ?_
    rw [← hQ]
    exact m_iret () hx hb hr rfl hlk (by have hF : RR.1 = (spF x k).1 := (by subst hRR; first | rfl); rw [← hF]; exact hM) hS (by subst hRR; first | rfl) (by first | decide | omega) (by first | decide | omega) dX1_spread_115
  have Wh : ∀ (f k9 : Nat) (q9 : St × Nat), k9 + f = 25 → spI x q9 → spR f k9 q9 = RR → ∀ (H : Heap) (locs : List Loc) (ls : Array Slot), mW g.1 A (cwM g ad Mx q9.1) H → va_S A s.heap H locs → lv_has ls 6 [(0, .ref (ad 0 0)), (2, .int (nI q9.2)), (3, .int (nI k9))] → W p l e rm_X1_spread s m args below meth c H locs k9 (2 * k9) Q (F0 m 18 ls []) := by
    intro f
    induction f with
    | zero =>
      intro k9 q9 hkf hI he H locs ls hM hS hl
      have h25 := hI.le
      have he : q9 = RR := he
      subst q9
      exact X9 k9 (by omega) (by omega) H locs ls hM hS hl
    | succ f ihw =>
      intro k9 q9 hkf hI he H locs ls hM hS hl
      have h25 := hI.le
      by_cases hlt : k9 < q9.2
      · have he : spR f (k9 + 1) (spO k9 q9) = RR := (if_pos hlt).symm.trans he
        have hpk := hI.2 k9 hlt
        have hok9 := hI.o hlt
        unfold spO at he hok9
        obtain ⟨b9, eb9⟩ : ∃ z, nt q9.1 50 k9 = z := ⟨_, rfl⟩
        rw [eb9] at hpk he hok9
        have hb9 := hpk.2
        refine lv_iload_n hx hb dX1_spread_18 rfl (lv_at hl 2 rfl) ?_
        refine lv_iload_n hx hb dX1_spread_19 rfl (lv_at hl 1 rfl) ?_
        refine lv_icmp_ge (tgt := 114) hx hb dX1_spread_20 (by decide) (fun c9 => absurd c9 (nI_ge hlt (by omega))) (fun _ => ?_)
        refine m_new hx hb hts in_X5 tyX5 tyX5_ok hown (hts _ q227) (hts _ q228) (hts _ q51) hE hM hS hA 20 0 (by rw [cw_ext (by decide)]; exact hMx) (ci := 4) rfl (fs := [.int 0, .int 0]) ar_fs ((by show k9 + 1 ≤ 25; omega)) ((by show (2 * k9) + 2 ≤ 50; omega)) dX1_spread_23 (fun q_9 H h_q_9 hM hS => ?_)
        have hM := cwUp (by decide) hM
        refine lv_dup hx hb dX1_spread_26 rfl ?_
        refine lv_aload_n hx hb dX1_spread_27 rfl (lv_at hl 0 rfl) ?_
        refine m_get hx hb hts in_X1 hown hE hM 0 0 cw_0 (ci := 0) rfl 9 (by decide) (hts _ q189) (fun _ h9 => h9) rfl dX1_spread_28 ?_
        refine lv_iload_n hx hb dX1_spread_31 rfl (lv_at hl 2 rfl) ?_
        refine m_iald hx hb hE hM 11 3 cw_11d k9 (by omega) (by decide) rfl dX1_spread_32 ?_
        refine m_topI (y := nI b9) (hpk.1) ?_
        refine m_cpv (m_rI (As := [.int (nI b9)]) (rest := [.ref q_9]) hcf (k_X5_init l g A (cwM g ad Mx q9.1) q_9 b9 (by omega)) (cwI 1 hts (lw_meth q231) rfl rfl rfl (hts _ q51) (hts _ q229) (hts _ q230) rfl (by decide +kernel) ⟨Nat.le_of_ble_eq_true rfl, Nat.le_of_ble_eq_true rfl⟩) hE hA (upCw (by decide) hM) hS rfl hl.1 rfl (Nat.le_of_ble_eq_true rfl) dX1_spread_33 ⟨(by show (k9 + 1) + 0 ≤ 25; omega), (by show (2 * k9 + 2) + 0 ≤ 50; omega)⟩) hS (fun H locs hM hS => ?_)
        have hM := arCw hM
        refine lv_astore (lv' := [(4, .ref q_9), (0, .ref (ad 0 0)), (2, .int (nI q9.2)), (3, .int (nI k9))]) hx hb dX1_spread_36 hl (by decide) rfl (fun ls hl => ?_)
        obtain ⟨R_13, hR_13⟩ : ∃ y : (St × Nat), nbF b9 spS 4 (skpN b9 4 0) q9 = y := ⟨_, rfl⟩
        have X_13 : spI x R_13 → ∀ (H : Heap) (locs : List Loc) (ls : Array Slot), mW g.1 A (cwM g ad (mAr Mx q_9 b9 4) R_13.1) H → va_S A s.heap H locs → lv_has ls 6 [(0, .ref (ad 0 0)), (2, .int (nI R_13.2)), (3, .int (nI k9)), (4, .ref q_9)] → W p l e rm_X1_spread s m args below meth c H locs (k9 + 1) (2 * k9 + 2) Q (F0 m 38 ls []) := by
          intro hi0_13 H locs ls hM hS hl
          refine lv_aload hx hb dX1_spread_38 (lv_at hl 3 rfl) ?_
          refine m_cFi (m_rF (As := []) (rest := []) hcf (k_X5_hasNext l g A (cwM g ad Mx R_13.1) q_9 b9 4) (va_cwF 0 hts (lw_F q253 q257 q259 q51 q261) rfl rfl rfl hE.X.1 (by decide +kernel) ⟨Nat.le_of_ble_eq_true rfl, Nat.le_of_ble_eq_true rfl⟩) hE hA (cwAr hM) hS 20 0 (mUp_self _ _ _ _) (ci := 4) rfl rfl hl.1 rfl (Nat.le_of_ble_eq_true rfl) dX1_spread_40 ⟨(by show (k9 + 1) + 0 ≤ 25; omega), (by show (2 * k9 + 2) + 0 ≤ 50; omega)⟩) hS (fun H locs hM hS => ?_)
          have hM := arCw hM
          refine m_topI (y := 0) (if_pos (by decide)) ?_
          refine lv_if_eq (tgt := 108) hx hb dX1_spread_45 (by decide) (fun _ => ?_) (fun c9 => absurd (by decide) c9)
          have hM := cw_down (k := 20) (n := 0) (by decide) hMx (cwAr hM)
          refine lv_iinc (v := nI (k9 + 1)) (lv' := [(3, .int (nI (k9 + 1))), (0, .ref (ad 0 0)), (2, .int (nI R_13.2)), (4, .ref q_9)]) hx hb dX1_spread_108 hl (k := 2) rfl (nI_add k9 1) (by decide) rfl (fun ls hl => ?_)
          refine lv_goto (tgt := 18) hx hb dX1_spread_111 (by decide) ?_
          rw [hR_13] at he hok9
          refine W.widen (k := k9 + 1) (n := 2 * (k9 + 1)) (by omega) (by omega) ?_
          exact ihw (k9 + 1) R_13 (by omega) hok9 he H locs ls hM hS (lv_sub hl [1, 2, 0] rfl)
        have L_13 : ∀ (f n_13 : Nat) (w_13 : (St × Nat)), n_13 ≤ 4 → 4 ≤ n_13 + f → (n_13 < 4 → ¬ onR b9 n_13 = 0) → nbF b9 spS f n_13 w_13 = R_13 → spI x w_13 → ∀ (H : Heap) (locs : List Loc) (ls : Array Slot), mW g.1 A (cwM g ad (mAr Mx q_9 b9 n_13) w_13.1) H → va_S A s.heap H locs → lv_has ls 6 [(0, .ref (ad 0 0)), (2, .int (nI w_13.2)), (3, .int (nI k9)), (4, .ref q_9)] → W p l e rm_X1_spread s m args below meth c H locs (k9 + 1) (2 * k9 + 2) Q (F0 m 38 ls []) := by
          intro f
          induction f with
          | zero =>
            intro n_13 w_13 h4 hf hon he hi0_13 H locs ls hM hS hl
            have h5 : n_13 = 4 := by omega
            subst h5
            have he : w_13 = R_13 := he
            subst w_13
            exact X_13 hi0_13 H locs ls hM hS hl
          | succ f ih =>
            intro n_13 w_13 h4 hf hon he hi0_13 H locs ls hM hS hl
            by_cases h5 : n_13 = 4
            · subst h5
              have he : w_13 = R_13 := (nbF_4 _ _ _ _).symm.trans he
              subst w_13
              exact X_13 hi0_13 H locs ls hM hS hl
            have hn4 : n_13 < 4 := by omega
            have hon := hon hn4
            have he := (nbF_s hn4 _ _ _).symm.trans he
            obtain ⟨hb25, hbn⟩ := nbN_ok hb9 hn4 hon
            refine lv_aload hx hb dX1_spread_38 (lv_at hl 3 rfl) ?_
            refine m_cFi (m_rF (As := []) (rest := []) hcf (k_X5_hasNext l g A (cwM g ad Mx w_13.1) q_9 b9 n_13) (va_cwF 0 hts (lw_F q253 q257 q259 q51 q261) rfl rfl rfl hE.X.1 (by decide +kernel) ⟨Nat.le_of_ble_eq_true rfl, Nat.le_of_ble_eq_true rfl⟩) hE hA (cwAr hM) hS 20 0 (mUp_self _ _ _ _) (ci := 4) rfl rfl hl.1 rfl (Nat.le_of_ble_eq_true rfl) dX1_spread_40 ⟨(by show (k9 + 1) + 0 ≤ 25; omega), (by show (2 * k9 + 2) + 0 ≤ 50; omega)⟩) hS (fun H locs hM hS => ?_)
            have hM := arCw hM
            refine m_topI (y := 1) (if_neg (nI_ge (b := 4) (by omega) (by omega))) ?_
            refine lv_if_eq (tgt := 108) hx hb dX1_spread_45 (by decide) (fun c9 => absurd c9 (by decide)) (fun _ => ?_)
            refine lv_aload hx hb dX1_spread_48 (lv_at hl 3 rfl) ?_
            refine m_cFr (m_rF (As := []) (rest := []) hcf (k_X5_next l g A (cwM g ad Mx w_13.1) q_9 b9 n_13 (by omega) hn4 (nbN b9 n_13) hb25 hbn) (va_cwF 0 hts (lw_F q263 q266 q268 q51 q270) rfl rfl rfl hE.X.2.1 (by decide +kernel) ⟨Nat.le_of_ble_eq_true rfl, Nat.le_of_ble_eq_true rfl⟩) hE hA (cwAr hM) hS 20 0 (mUp_self _ _ _ _) (ci := 4) rfl rfl hl.1 rfl (Nat.le_of_ble_eq_true rfl) dX1_spread_50 ⟨(by show (k9 + 1) + 0 ≤ 25; omega), (by show (2 * k9 + 2) + 0 ≤ 50; omega)⟩) hS (fun H locs hM hS => ?_)
            have hM := arCw hM
            refine va_castS hx hb hown (hts _ q362) (hE.1.1 9 _ rfl).2 (m_box hE hS (by omega)) dX1_spread_55 ?_
            refine m_cpi (m_rVa (As := []) (rest := []) hcf (k_J14_intValue l g A (cwM g ad (mAr Mx q_9 b9 (skpN b9 4 (n_13 + 1))) w_13.1) (nbN b9 n_13 + 128) (by omega)) (cwV 0 hts (lw_V q363 q364 q365 q54 q366) rfl rfl rfl (by decide +kernel) ⟨Nat.le_of_ble_eq_true rfl, Nat.le_of_ble_eq_true rfl⟩) hE hA hM hS (m_box hE hS (by omega)) rfl hl.1 rfl (Nat.le_of_ble_eq_true rfl) dX1_spread_58 ⟨(by show (k9 + 1) + 0 ≤ 25; omega), (by show (2 * k9 + 2) + 0 ≤ 50; omega)⟩) hS (fun H locs hM hS => ?_)
            refine m_topI (y := nI (nbN b9 n_13)) (vb_nI hb25) ?_
            refine lv_istore (lv' := [(5, .int (nI (nbN b9 n_13))), (0, .ref (ad 0 0)), (2, .int (nI w_13.2)), (3, .int (nI k9)), (4, .ref q_9)]) hx hb dX1_spread_61 hl (by decide) rfl (fun ls hl => ?_)
            refine lv_aload_n hx hb dX1_spread_63 rfl (lv_at hl 1 rfl) ?_
            refine m_get hx hb hts in_X1 hown hE hM 0 0 cw_0 (ci := 0) rfl 8 (by decide) (hts _ q188) (fun _ h9 => h9) rfl dX1_spread_64 ?_
            refine lv_iload hx hb dX1_spread_67 (lv_at hl 0 rfl) ?_
            refine m_zald hx hb hE hM 11 2 cw_11c (nbN b9 n_13) (by omega) (by decide) rfl dX1_spread_69 ?_
            refine lv_if_ne (tgt := 105) hx hb dX1_spread_70 (by decide) (fun c_23 => ?_) (fun c_23 => ?_)
            · refine lv_goto (tgt := 38) hx hb dX1_spread_105 (by decide) ?_
              have hq9 : spS (nbN b9 n_13) w_13 = (w_13.1, w_13.2) := by unfold spS; rw [if_neg c_23]
              exact ih (skpN b9 4 (n_13 + 1)) (w_13.1, w_13.2) (skpN_le _ _ (by omega)).2 (by have := (skpN_le (k := b9) 4 (n_13 + 1) (by omega)).1; omega) (skpN_on _ _ (by omega) (by omega)) (by rw [← hq9]; exact he) (by rw [← hq9]; exact hi0_13.stp hb25) H locs ls hM hS (lv_sub hl [1, 2, 3, 4] (by rfl))
            · refine lv_aload_n hx hb dX1_spread_73 rfl (lv_at hl 1 rfl) ?_
              refine m_get hx hb hts in_X1 hown hE hM 0 0 cw_0 (ci := 0) rfl 0 (by decide) (hts _ q178) (fun _ h9 => h9) rfl dX1_spread_74 ?_
              refine lv_iload hx hb dX1_spread_77 (lv_at hl 0 rfl) ?_
              refine m_aald hx hb hE hM 1 0 3 cw_1 rfl (nbN b9 n_13) (by omega) (by decide) rfl rfl dX1_spread_79 ?_
              refine m_get hx hb hts in_X2 hown hE hM 2 (nbN b9 n_13) (cw_2 (by omega)) (ci := 2) rfl 3 (by decide) (hts _ q144) (fun _ h9 => h9) rfl dX1_spread_80 ?_
              refine lv_if_le (tgt := 105) hx hb dX1_spread_83 (by decide) (fun c_24 => ?_) (fun c_24 => ?_)
              · refine lv_goto (tgt := 38) hx hb dX1_spread_105 (by decide) ?_
                have hq9 : spS (nbN b9 n_13) w_13 = (w_13.1, w_13.2) := by unfold spS; rw [if_pos c_23, if_pos c_24]
                exact ih (skpN b9 4 (n_13 + 1)) (w_13.1, w_13.2) (skpN_le _ _ (by omega)).2 (by have := (skpN_le (k := b9) 4 (n_13 + 1) (by omega)).1; omega) (skpN_on _ _ (by omega) (by omega)) (by rw [← hq9]; exact he) (by rw [← hq9]; exact hi0_13.stp hb25) H locs ls hM hS (lv_sub hl [1, 2, 3, 4] (by rfl))
              · have hn25 : w_13.2 < 25 := hi0_13.lt hb25 c_23
                refine lv_aload_n hx hb dX1_spread_86 rfl (lv_at hl 1 rfl) ?_
                refine m_get hx hb hts in_X1 hown hE hM 0 0 cw_0 (ci := 0) rfl 8 (by decide) (hts _ q188) (fun _ h9 => h9) rfl dX1_spread_87 ?_
                refine lv_iload hx hb dX1_spread_90 (lv_at hl 0 rfl) ?_
                refine lv_iconst (v := 1) hx hb dX1_spread_92 (by decide) ?_
                refine cs_st hcf hE hM hS (nbN b9 n_13) (by omega) (by decide) rfl dX1_spread_93 (fun x_25 H locs ex_26 hM hS => ?_)
                refine lv_aload_n hx hb dX1_spread_94 rfl (lv_at hl 1 rfl) ?_
                refine m_get hx hb hts in_X1 hown hE hM 0 0 cw_0 (ci := 0) rfl 9 (by decide) (hts _ q189) (fun _ h9 => h9) rfl dX1_spread_95 ?_
                refine lv_iload_n hx hb dX1_spread_98 rfl (lv_at hl 2 rfl) ?_
                refine lv_iload hx hb dX1_spread_99 (lv_at hl 0 rfl) ?_
                refine cp_st hcf hE hM hS w_13.2 (by omega) rfl dX1_spread_101 (fun x_27 H locs ex_28 hM hS => ?_)
                refine lv_iinc (v := nI (w_13.2 + 1)) (lv' := [(2, .int (nI (w_13.2 + 1))), (5, .int (nI (nbN b9 n_13))), (0, .ref (ad 0 0)), (3, .int (nI k9)), (4, .ref q_9)]) hx hb dX1_spread_102 hl (k := 2) rfl (nI_add w_13.2 1) (by decide) rfl (fun ls hl => ?_)
                refine lv_goto (tgt := 38) hx hb dX1_spread_105 (by decide) ?_
                have hq9 : spS (nbN b9 n_13) w_13 = (x_27, (w_13.2 + 1)) := by subst ex_28 ex_26; unfold spS; rw [if_pos c_23, if_neg c_24]
                exact ih (skpN b9 4 (n_13 + 1)) (x_27, (w_13.2 + 1)) (skpN_le _ _ (by omega)).2 (by have := (skpN_le (k := b9) 4 (n_13 + 1) (by omega)).1; omega) (skpN_on _ _ (by omega) (by omega)) (by subst ex_28 ex_26; rw [← hq9]; exact he) (by rw [← hq9]; exact hi0_13.stp hb25) H locs ls hM hS (lv_sub hl [2, 0, 3, 4] (by rfl))
        exact L_13 4 (skpN b9 4 0) q9 (skpN_le _ _ (by omega)).2 (by omega) (skpN_on _ _ (by omega) (by omega)) hR_13 hI H locs ls hM hS (lv_sub hl [1, 2, 3, 0] rfl)
      · have he : q9 = RR := (if_neg hlt).symm.trans he
        subst q9
        exact X9 k9 (by omega) (by omega) H locs ls hM hS hl
  exact Wh 25 0 (sp0 x k) (by omega) (spI.z hk h0) hRR H locs ls hM hS (lv_sub hl [2, 1, 0] rfl)
