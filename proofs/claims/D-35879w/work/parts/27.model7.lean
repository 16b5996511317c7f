/-! the reference: lakes -/
set_option maxRecDepth 100000
def labI (x : St) : Nat → St := it (fun y c => sI y 7 c (if y.1 3 c ≤ 0 then (-1) else nI c)) x
theorem labI_s (x : St) (i : Nat) : labI x (i + 1) = sI (labI x i) 7 i (if (labI x i).1 3 i ≤ 0 then (-1) else nI i) := it_succ _ _ _
/-- a look at the k-th pair of neighbours -/
def gpN (k : Nat) : Int32 := besR (nI (k / 4)) (nI (k % 4))
def gpX (y : St) (k : Nat) : St := if gpN k = (-1) then y else (if y.1 7 (k / 4) = (-1) then y else (if y.1 7 (gpN k).toNatClampNeg = (-1) then y else (if y.1 7 (k / 4) ≤ y.1 7 (gpN k).toNatClampNeg then y else sI y 7 (k / 4) (y.1 7 (gpN k).toNatClampNeg))))
def gpV (y : St) (v : Int32) (k : Nat) : Int32 := if gpN k = (-1) then v else (if y.1 7 (k / 4) = (-1) then v else (if y.1 7 (gpN k).toNatClampNeg = (-1) then v else (if y.1 7 (k / 4) ≤ y.1 7 (gpN k).toNatClampNeg then v else 1)))
def gpL (y : St) : Nat → St × Int32 := it (fun q k => (gpX q.1 k, gpV q.1 q.2 k)) (y, 0)
theorem gpL_1 (y : St) (k : Nat) : (gpL y (k + 1)).1 = gpX (gpL y k).1 k := rfl
theorem gpL_2 (y : St) (k : Nat) : (gpL y (k + 1)).2 = gpV (gpL y k).1 (gpL y k).2 k := rfl
def gpP (y : St) : St := (gpL y 100).1
def gaJ (x : St) : Nat → St := it (fun y _ => gpP y) (labI x 25)
theorem it_zero {α : Type} (f : α → Nat → α) (a : α) : it f a 0 = a := rfl
theorem gaJ_0 (x : St) : gaJ x 0 = labI x 25 := it_zero _ _
theorem gaJ_s (x : St) (i : Nat) : gaJ x (i + 1) = gpP (gaJ x i) := it_succ _ _ _
def gaF (x : St) : St := gaJ x 700
def labOk (y : St) : Prop := ∀ c, c < 25 → y.1 7 c = (-1) ∨ (y.1 7 c = nI (y.1 7 c).toNatClampNeg ∧ (y.1 7 c).toNatClampNeg < 25)
def sumN (f : Nat → Nat) : Nat → Nat
  | 0 => 0
  | n + 1 => sumN f n + f n
theorem sumN_le {f h : Nat → Nat} : ∀ n, (∀ i, i < n → f i ≤ h i) → sumN f n ≤ sumN h n := by
  intro n
  induction n with
  | zero => intro _; exact Nat.le_refl _
  | succ n ih =>
    intro hh
    have h1 := ih (fun i hi => hh i (by omega))
    have h2 := hh n (by omega)
    show sumN f n + f n ≤ sumN h n + h n
    omega
theorem sumN_lt {f h : Nat → Nat} {k : Nat} : ∀ n, k < n → (∀ i, i < n → f i ≤ h i) → f k < h k → sumN f n < sumN h n := by
  intro n
  induction n with
  | zero => intro h0; omega
  | succ n ih =>
    intro hk hh hlt
    show sumN f n + f n < sumN h n + h n
    have h2 := hh n (by omega)
    by_cases e : k = n
    · subst e
      have h1 := sumN_le k (fun i hi => hh i (by omega))
      omega
    · have h1 := ih (by omega) (fun i hi => hh i (by omega)) hlt
      omega
def gaW (v : Int32) : Nat := if v = (-1) then 0 else v.toNatClampNeg + 1
def gaM (y : St) : Nat := sumN (fun c => gaW (y.1 7 c)) 25
theorem gaM_lt {y : St} {c : Nat} (hc : c < 25) {v : Int32} (h : gaW v < gaW (y.1 7 c)) : gaM (sI y 7 c v) < gaM y := by
  have e : ∀ i, gaW ((sI y 7 c v).1 7 i) = if i = c then gaW v else gaW (y.1 7 i) := by
    intro i
    show gaW (if 7 = 7 ∧ i = c then v else y.1 7 i) = _
    by_cases q : i = c
    · simp [q]
    · simp [q]
  refine sumN_lt (k := c) 25 hc (fun i _ => ?_) ?_
  · show gaW ((sI y 7 c v).1 7 i) ≤ gaW (y.1 7 i)
    rw [e]
    split
    · rename_i q; subst q; omega
    · exact Nat.le_refl _
  · show gaW ((sI y 7 c v).1 7 c) < gaW (y.1 7 c)
    rw [e, if_pos rfl]
    exact h
theorem labOk_sI {y : St} (h : labOk y) {c : Nat} {v : Int32} (hv : v = (-1) ∨ (v = nI v.toNatClampNeg ∧ v.toNatClampNeg < 25)) : labOk (sI y 7 c v) := by
  intro d hd
  show (if 7 = 7 ∧ d = c then v else y.1 7 d) = (-1) ∨ ((if 7 = 7 ∧ d = c then v else y.1 7 d) = nI (if 7 = 7 ∧ d = c then v else y.1 7 d).toNatClampNeg ∧ (if 7 = 7 ∧ d = c then v else y.1 7 d).toNatClampNeg < 25)
  split
  · exact hv
  · exact h d hd
theorem gp_step {y : St} (hy : labOk y) {k : Nat} (hk : k < 100) : (gpX y k = y ∧ ∀ v, gpV y v k = v) ∨ (labOk (gpX y k) ∧ gaM (gpX y k) < gaM y ∧ ∀ v, gpV y v k = 1) := by
  unfold gpX gpV
  by_cases h1 : gpN k = (-1)
  · simp [h1]
  by_cases h2 : y.1 7 (k / 4) = (-1)
  · simp [h1, h2]
  by_cases h3 : y.1 7 (gpN k).toNatClampNeg = (-1)
  · simp [h1, h2, h3]
  by_cases h4 : y.1 7 (k / 4) ≤ y.1 7 (gpN k).toNatClampNeg
  · simp [h1, h2, h3, h4]
  · refine Or.inr ?_
    rw [if_neg h1, if_neg h2, if_neg h3, if_neg h4]
    have hn : (gpN k).toNatClampNeg < 25 := (besR_ok (c := k / 4) (d := k % 4) (by omega) (by omega)).j h1
    obtain ⟨e1, b1⟩ := (hy (k / 4) (by omega)).resolve_left h2
    have hh := hy _ hn
    obtain ⟨e2, b2⟩ := hh.resolve_left h3
    refine ⟨labOk_sI hy hh, gaM_lt (by omega) ?_, fun v => by rw [if_neg h1, if_neg h2, if_neg h3, if_neg h4]⟩
    unfold gaW
    rw [if_neg h3, if_neg h2]
    rw [e1, e2] at h4
    have h5 : ¬ (y.1 7 (k / 4)).toNatClampNeg ≤ (y.1 7 (gpN k).toNatClampNeg).toNatClampNeg := fun q => h4 ((nI_leI (by omega) (by omega)).mpr q)
    omega
theorem gp_pass {y : St} (hy : labOk y) : ∀ k, k ≤ 100 → labOk (gpL y k).1 ∧ (((gpL y k).1 = y ∧ (gpL y k).2 = 0) ∨ (gaM (gpL y k).1 < gaM y ∧ (gpL y k).2 = 1)) := by
  intro k
  induction k with
  | zero => intro _; exact ⟨hy, Or.inl ⟨rfl, rfl⟩⟩
  | succ k ih =>
    intro hk
    obtain ⟨h1, h2⟩ := ih (by omega)
    rw [gpL_1, gpL_2]
    rcases gp_step h1 (k := k) (by omega) with ⟨e1, e2⟩ | ⟨g1, g2, g3⟩
    · rw [e1, e2]
      exact ⟨h1, h2⟩
    · refine ⟨g1, Or.inr ⟨?_, g3 _⟩⟩
      rcases h2 with ⟨f1, -⟩ | ⟨f1, -⟩
      · have g4 : gaM (gpL y k).1 = gaM y := by rw [f1]
        omega
      · omega
theorem labI_keep (x : St) : ∀ i, (∀ f, f ≠ 7 → (labI x i).1 f = x.1 f) ∧ (labI x i).2 = x.2 ∧ (∀ c, c < i → (labI x i).1 7 c = if x.1 3 c ≤ 0 then (-1) else nI c) := by
  intro i
  induction i with
  | zero => exact ⟨fun _ _ => rfl, rfl, fun c hc => by omega⟩
  | succ i ih =>
    obtain ⟨h1, h2, h3⟩ := ih
    rw [labI_s]
    refine ⟨fun f hf => (sI_ne _ 7 i _ hf).trans (h1 f hf), h2, fun c hc => ?_⟩
    rw [h1 3 (by decide)]
    show (if 7 = 7 ∧ c = i then _ else (labI x i).1 7 c) = _
    by_cases e : c = i
    · subst e; simp
    · rw [if_neg (by omega)]
      exact h3 c (by omega)
theorem labI_ok (x : St) : labOk (labI x 25) := by
  intro c hc
  rw [(labI_keep x 25).2.2 c hc]
  split
  · exact Or.inl rfl
  · exact Or.inr ⟨by rw [nI_clamp (by omega)], by rw [nI_clamp (by omega)]; exact hc⟩
theorem gaJ_ok (x : St) : ∀ j, labOk (gaJ x j) := by
  intro j
  induction j with
  | zero => rw [gaJ_0]; exact labI_ok x
  | succ j ih => rw [gaJ_s]; exact (gp_pass ih 100 (Nat.le_refl _)).1
theorem sumN_const (n : Nat) : ∀ m, sumN (fun _ => n) m = n * m := by
  intro m
  induction m with
  | zero => rfl
  | succ m ih => show sumN _ m + n = _; rw [ih, Nat.mul_succ]
theorem gaM_le {y : St} (h : labOk y) : gaM y ≤ 625 := by
  have := sumN_le (f := fun c => gaW (y.1 7 c)) (h := fun _ => 25) 25 (fun c hc => by
    show gaW (y.1 7 c) ≤ 25
    unfold gaW
    split
    · omega
    · rename_i q
      have := ((h c hc).resolve_left q).2
      omega)
  rw [sumN_const] at this
  exact this
theorem gaJ_fix {x : St} {j : Nat} (h : gpP (gaJ x j) = gaJ x j) : ∀ m, gaJ x (j + m) = gaJ x j := by
  intro m
  induction m with
  | zero => rfl
  | succ m ih => rw [← Nat.add_assoc, gaJ_s, ih, h]
theorem gaF_of {x y : St} {j : Nat} (ej : gaJ x j = y) (h : gpP y = y) (hj : j ≤ 700) : y = gaF x := by
  subst ej
  have h2 := gaJ_fix h (700 - j)
  rw [show j + (700 - j) = 700 by omega] at h2
  exact h2.symm
abbrev rm_X4_gather : Room := { frames := 1, cells := 0, slots := 0, locals := 21 }
set_option maxHeartbeats 1000000 in
theorem k_X4_gather (l : Launch) (g : GG) (A : Nat → Prop) (ad : Nat → Nat → Nat) (x : St) : Met l yX4_gather (ws_ yX4_gather cX4_gather 5 none) rm_X4_gather (va_Pc [.ref (ad 30 0)] (mPre g A (mwM g ad x))) (pQv g A (mwM g ad (gaF x))) 0 0 A := by
  refine m_start RX4 rfl (by decide) (Nat.le_of_ble_eq_true rfl) ?_
  intro p e s m args below meth c hcf hr hlk hnm hE hA H locs hM hS ls hl
  have hx := hcf.1
  have hb := hcf.2.1
  have hml := hcf.2.2.1
  have hown := hcf.2.2.2.1
  have hts := hcf.2.2.2.2
  have hl : lv_has ls 5 [(0, .ref (ad 30 0))] := hl
  generalize hQ : MQ below (pQv g A (mwM g ad (gaF x))) args s 0 0 A = Q
  refine lv_iconst (v := 0) hx hb dX4_gather_0 (by decide) ?_
  refine lv_istore_n (lv' := [(1, .int 0), (0, .ref (ad 30 0))]) hx hb dX4_gather_1 rfl hl (by decide) rfl (fun ls hl => ?_)
  have L_2 : ∀ (n9 i_2 : Nat), i_2 + n9 = 25 → ∀ (H : Heap) (locs : List Loc) (ls : Array Slot), mW g.1 A (mwM g ad (labI x i_2)) H → va_S A s.heap H locs → lv_has ls 5 [(0, .ref (ad 30 0)), (1, .int (nI i_2))] → W p l e rm_X4_gather s m args below meth c H locs 0 0 Q (F0 m 2 ls []) := by
    intro n9
    induction n9 with
    | zero =>
      intro i_2 hi H locs ls hM hS hl 
      have hi : 25 = i_2 := by omega
      subst hi
      obtain ⟨x_4, ex_5⟩ : ∃ z : St, labI x 25 = z := ⟨_, rfl⟩
      rw [ex_5] at hM
      refine lv_iload_n hx hb dX4_gather_2 rfl (lv_at hl 1 rfl) ?_
      refine lv_bipush (v := 25) hx hb dX4_gather_3 (by decide) ?_
      refine lv_icmp_ge (tgt := 34) hx hb dX4_gather_5 (by decide) (fun _ => ?_) (fun c9 => absurd (by decide) c9)
      refine lv_iconst (v := 1) hx hb dX4_gather_34 (by decide) ?_
      refine lv_istore_n (lv' := [(1, .int 1), (0, .ref (ad 30 0))]) hx hb dX4_gather_35 rfl hl (by decide) rfl (fun ls hl => ?_)
      rw [← ex_5] at hM
      have Wh : ∀ (n9 j : Nat) (y9 : St) (v9 : Int32), gaJ x j = y9 → 2 * gaM y9 + (if v9 = 0 then 0 else 1) < n9 → j + gaM y9 + (if v9 = 0 then 0 else 1) ≤ 626 → (v9 = 0 → gpP y9 = y9) → ∀ (H : Heap) (locs : List Loc) (ls : Array Slot), mW g.1 A (mwM g ad y9) H → va_S A s.heap H locs → lv_has ls 5 [(0, .ref (ad 30 0)), (1, .int v9)] → W p l e rm_X4_gather s m args below meth c H locs 0 0 Q (F0 m 36 ls []) := by
        intro n9
        induction n9 with
        | zero =>
          intro j y9 v9 _ h
          exact absurd h (by omega)
        | succ n9 ihw =>
          intro j y9 v9 ej hn hj hv H locs ls hM hS hl
          have hlab : labOk y9 := by rw [← ej]; exact gaJ_ok x j
          obtain ⟨hl1, hl2⟩ := gp_pass hlab 100 (Nat.le_refl _)
          refine lv_iload_n hx hb dX4_gather_36 rfl (lv_at hl 1 rfl) ?_
          refine lv_if_eq (tgt := 130) hx hb dX4_gather_37 (by decide) (fun c_501 => ?_) (fun c_501 => ?_)
          · rw [← hQ]
            exact m_vret () hx hb hr hlk (by have hF : y9 = gaF x := gaF_of ej (hv c_501) (by omega); rw [← hF]; exact hM) hS trivial (by first | decide | omega) (by first | decide | omega) dX4_gather_130
          · refine lv_iconst (v := 0) hx hb dX4_gather_40 (by decide) ?_
            refine lv_istore_n (lv' := [(1, .int 0), (0, .ref (ad 30 0))]) hx hb dX4_gather_41 rfl hl (by decide) rfl (fun ls hl => ?_)
            refine lv_iconst (v := 0) hx hb dX4_gather_42 (by decide) ?_
            refine lv_istore_n (lv' := [(2, .int 0), (1, .int 0), (0, .ref (ad 30 0))]) hx hb dX4_gather_43 rfl hl (by decide) rfl (fun ls hl => ?_)
            have L_504 : ∀ (n9 i_504 : Nat), i_504 + n9 = 100 → ∀ (H : Heap) (locs : List Loc) (ls : Array Slot), mW g.1 A (mwM g ad ((gpL y9 i_504).1)) H → va_S A s.heap H locs → lv_has ls 5 [(0, .ref (ad 30 0)), (1, .int ((gpL y9 i_504).2)), (2, .int (nI i_504))] → W p l e rm_X4_gather s m args below meth c H locs 0 0 Q (F0 m 44 ls []) := by
              intro n9
              induction n9 with
              | zero =>
                intro i_504 hi H locs ls hM hS hl 
                have hi : 100 = i_504 := by omega
                subst hi
                obtain ⟨x_506, ex_507⟩ : ∃ z : St, (gpL y9 100).1 = z := ⟨_, rfl⟩
                rw [ex_507] at hM
                refine lv_iload_n hx hb dX4_gather_44 rfl (lv_at hl 2 rfl) ?_
                refine lv_bipush (v := 100) hx hb dX4_gather_45 (by decide) ?_
                refine lv_icmp_ge (tgt := 127) hx hb dX4_gather_47 (by decide) (fun _ => ?_) (fun c9 => absurd (by decide) c9)
                refine lv_goto (tgt := 36) hx hb dX4_gather_127 (by decide) ?_
                have e9 : (gpL y9 100).1 = x_506 := ex_507
                refine ihw (j + 1) x_506 _ ?_ ?_ ?_ ?_ H locs ls hM hS (lv_sub hl [0, 1] rfl)
                · rw [gaJ_s, ej]; exact e9
                · rw [← e9]; rw [if_neg c_501] at hn
                  rcases hl2 with ⟨f1, f2⟩ | ⟨f1, f2⟩
                  · rw [f1, f2]; rw [if_pos rfl]; omega
                  · rw [f2]; rw [if_neg (by decide)]; omega
                · rw [← e9]; rw [if_neg c_501] at hj
                  rcases hl2 with ⟨f1, f2⟩ | ⟨f1, f2⟩
                  · rw [f1, f2]; rw [if_pos rfl]; omega
                  · rw [f2]; rw [if_neg (by decide)]; omega
                · intro h0
                  rw [← e9]
                  rcases hl2 with ⟨f1, f2⟩ | ⟨f1, f2⟩
                  · rw [f1]; exact f1
                  · rw [f2] at h0; exact absurd h0 (by decide)
              | succ n9 ih =>
                intro i_504 hi H locs ls hM hS hl 
                have hlt_i_504 : i_504 < 100 := by omega
                obtain ⟨x_509, ex_510⟩ : ∃ z : St, (gpL y9 i_504).1 = z := ⟨_, rfl⟩
                rw [ex_510] at hM
                refine lv_iload_n hx hb dX4_gather_44 rfl (lv_at hl 2 rfl) ?_
                refine lv_bipush (v := 100) hx hb dX4_gather_45 (by decide) ?_
                refine lv_icmp_ge (tgt := 127) hx hb dX4_gather_47 (by decide) (fun c9 => absurd c9 (nI_ge (a := i_504) (b := 100) (by omega) (by decide))) (fun _ => ?_)
                refine lv_iload_n hx hb dX4_gather_50 rfl (lv_at hl 2 rfl) ?_
                refine lv_iconst (v := 4) hx hb dX4_gather_51 (by decide) ?_
                refine lv_idiv hx hb dX4_gather_52 (by decide) ?_
                refine m_topI (y := nI (i_504 / 4)) (pk_div (by omega) (by decide) (by decide)) ?_
                refine lv_istore_n (lv' := [(3, .int (nI (i_504 / 4))), (0, .ref (ad 30 0)), (1, .int ((gpL y9 i_504).2)), (2, .int (nI i_504))]) hx hb dX4_gather_53 rfl hl (by decide) rfl (fun ls hl => ?_)
                refine lv_iload_n hx hb dX4_gather_54 rfl (lv_at hl 0 rfl) ?_
                refine lv_iload_n hx hb dX4_gather_55 rfl (lv_at hl 3 rfl) ?_
                refine lv_iconst (v := 4) hx hb dX4_gather_56 (by decide) ?_
                refine lv_irem hx hb dX4_gather_57 (by decide) ?_
                refine m_topI (y := nI (i_504 % 4)) (pk_rem (by omega) (by decide) (by decide)) ?_
                refine m_cpi (m_rS (As := [.int (nI (i_504 / 4)), .int (nI (i_504 % 4))]) (rest := []) hcf (k_X4_beside l g A (mwM g ad x_509) (nI (i_504 / 4)) (nI (i_504 % 4))) (va_cwS 2 hts (lw_S q1097 q1098 q41 q1099) rfl rfl rfl (by decide +kernel) ⟨Nat.le_of_ble_eq_true rfl, Nat.le_of_ble_eq_true rfl⟩) hE hA hM hS rfl hl.1 rfl (Nat.le_of_ble_eq_true rfl) dX4_gather_58 ⟨Nat.le_of_ble_eq_true rfl, Nat.le_of_ble_eq_true rfl⟩) hS (fun H locs hM hS => ?_)
                refine lv_istore (lv' := [(4, .int (besR (nI (i_504 / 4)) (nI (i_504 % 4)))), (3, .int (nI (i_504 / 4))), (0, .ref (ad 30 0)), (1, .int ((gpL y9 i_504).2)), (2, .int (nI i_504))]) hx hb dX4_gather_61 hl (by decide) rfl (fun ls hl => ?_)
                refine lv_iload hx hb dX4_gather_63 (lv_at hl 0 rfl) ?_
                refine lv_iconst (v := (-1)) hx hb dX4_gather_65 (by decide) ?_
                have J_528 : ∀ (H : Heap) (locs : List Loc) (ls : Array Slot) (x_523 : St) (v_525 : Int32), mW g.1 A (mwM g ad x_523) H → va_S A s.heap H locs → lv_has ls 5 [(0, .ref (ad 30 0)), (1, .int v_525), (2, .int (nI i_504)), (3, .int (nI (i_504 / 4))), (4, .int (besR (nI (i_504 / 4)) (nI (i_504 % 4))))] → ((if (besR (nI (i_504 / 4)) (nI (i_504 % 4))) = (-1) then x_509 else (if (x_509.1 7 (i_504 / 4)) = (-1) then x_509 else (if (x_509.1 7 ((besR (nI (i_504 / 4)) (nI (i_504 % 4))).toNatClampNeg)) = (-1) then x_509 else (if (x_509.1 7 (i_504 / 4)) ≤ (x_509.1 7 ((besR (nI (i_504 / 4)) (nI (i_504 % 4))).toNatClampNeg)) then x_509 else (sI x_509 7 (i_504 / 4) (x_509.1 7 ((besR (nI (i_504 / 4)) (nI (i_504 % 4))).toNatClampNeg))))))) = x_523) → ((if (besR (nI (i_504 / 4)) (nI (i_504 % 4))) = (-1) then ((gpL y9 i_504).2) else (if (x_509.1 7 (i_504 / 4)) = (-1) then ((gpL y9 i_504).2) else (if (x_509.1 7 ((besR (nI (i_504 / 4)) (nI (i_504 % 4))).toNatClampNeg)) = (-1) then ((gpL y9 i_504).2) else (if (x_509.1 7 (i_504 / 4)) ≤ (x_509.1 7 ((besR (nI (i_504 / 4)) (nI (i_504 % 4))).toNatClampNeg)) then ((gpL y9 i_504).2) else 1)))) = v_525) → W p l e rm_X4_gather s m args below meth c H locs 0 0 Q (F0 m 121 ls []) := by
                  intro H locs ls x_523 v_525 hM hS hl ex_524 ev_526
                  refine lv_iinc (v := nI (i_504 + 1)) (lv' := [(2, .int (nI (i_504 + 1))), (0, .ref (ad 30 0)), (1, .int v_525), (3, .int (nI (i_504 / 4))), (4, .int (besR (nI (i_504 / 4)) (nI (i_504 % 4))))]) hx hb dX4_gather_121 hl (k := 2) rfl (nI_add i_504 1) (by decide) rfl (fun ls hl => ?_)
                  refine lv_goto (tgt := 44) hx hb dX4_gather_124 (by decide) ?_
                  exact ih (i_504 + 1) (by omega) H locs ls (by have hF : x_523 = (gpL y9 (i_504 + 1)).1 := (by subst ev_526 ex_524 ex_510; rfl); rw [← hF]; exact hM) hS (lv_sub hl [1, 2, 0] (by subst ev_526 ex_524 ex_510; rfl))
                refine lv_icmp_eq (tgt := 121) hx hb dX4_gather_66 (by decide) (fun c_516 => ?_) (fun c_516 => ?_)
                · skip
                  exact J_528 H locs ls _ _ hM hS (lv_sub hl [2, 3, 4, 1, 0] rfl) (by first | rfl | (rw [if_pos c_516]) | (simp only [c_516, if_true, if_false, ite_true, ite_false, not_false_eq_true, reduceIte])) (by first | rfl | (rw [if_pos c_516]) | (simp only [c_516, if_true, if_false, ite_true, ite_false, not_false_eq_true, reduceIte]))
                · refine lv_aload_n hx hb dX4_gather_69 rfl (lv_at hl 2 rfl) ?_
                  refine mm_get hcf hE hM 7 (by decide) q943 rfl rfl dX4_gather_70 ?_
                  refine lv_iload_n hx hb dX4_gather_73 rfl (lv_at hl 1 rfl) ?_
                  refine mm_ald hcf hE hM 7 rfl (by decide) (i_504 / 4) (by show _ < 25; omega) rfl dX4_gather_74 ?_
                  refine lv_iconst (v := (-1)) hx hb dX4_gather_75 (by decide) ?_
                  refine lv_icmp_eq (tgt := 121) hx hb dX4_gather_76 (by decide) (fun c_517 => ?_) (fun c_517 => ?_)
                  · skip
                    exact J_528 H locs ls _ _ hM hS (lv_sub hl [2, 3, 4, 1, 0] rfl) (by first | rfl | (rw [if_neg c_516, if_pos c_517]) | (simp only [c_516, c_517, if_true, if_false, ite_true, ite_false, not_false_eq_true, reduceIte])) (by first | rfl | (rw [if_neg c_516, if_pos c_517]) | (simp only [c_516, c_517, if_true, if_false, ite_true, ite_false, not_false_eq_true, reduceIte]))
                  · refine lv_aload_n hx hb dX4_gather_79 rfl (lv_at hl 2 rfl) ?_
                    refine mm_get hcf hE hM 7 (by decide) q943 rfl rfl dX4_gather_80 ?_
                    refine lv_iload hx hb dX4_gather_83 (lv_at hl 0 rfl) ?_
                    refine mm_ald hcf hE hM 7 rfl (by decide) ((besR (nI (i_504 / 4)) (nI (i_504 % 4))).toNatClampNeg) ((besR_ok (by omega) (by omega) : ok25 (besR (nI (i_504 / 4)) (nI (i_504 % 4)))).j c_516) ((besR_ok (by omega) (by omega) : ok25 (besR (nI (i_504 / 4)) (nI (i_504 % 4)))).e c_516) dX4_gather_85 ?_
                    refine lv_iconst (v := (-1)) hx hb dX4_gather_86 (by decide) ?_
                    refine lv_icmp_eq (tgt := 121) hx hb dX4_gather_87 (by decide) (fun c_518 => ?_) (fun c_518 => ?_)
                    · skip
                      exact J_528 H locs ls _ _ hM hS (lv_sub hl [2, 3, 4, 1, 0] rfl) (by first | rfl | (rw [if_neg c_516, if_neg c_517, if_pos c_518]) | (simp only [c_516, c_517, c_518, if_true, if_false, ite_true, ite_false, not_false_eq_true, reduceIte])) (by first | rfl | (rw [if_neg c_516, if_neg c_517, if_pos c_518]) | (simp only [c_516, c_517, c_518, if_true, if_false, ite_true, ite_false, not_false_eq_true, reduceIte]))
                    · refine lv_aload_n hx hb dX4_gather_90 rfl (lv_at hl 2 rfl) ?_
                      refine mm_get hcf hE hM 7 (by decide) q943 rfl rfl dX4_gather_91 ?_
                      refine lv_iload hx hb dX4_gather_94 (lv_at hl 0 rfl) ?_
                      refine mm_ald hcf hE hM 7 rfl (by decide) ((besR (nI (i_504 / 4)) (nI (i_504 % 4))).toNatClampNeg) ((besR_ok (by omega) (by omega) : ok25 (besR (nI (i_504 / 4)) (nI (i_504 % 4)))).j c_516) ((besR_ok (by omega) (by omega) : ok25 (besR (nI (i_504 / 4)) (nI (i_504 % 4)))).e c_516) dX4_gather_96 ?_
                      refine lv_aload_n hx hb dX4_gather_97 rfl (lv_at hl 2 rfl) ?_
                      refine mm_get hcf hE hM 7 (by decide) q943 rfl rfl dX4_gather_98 ?_
                      refine lv_iload_n hx hb dX4_gather_101 rfl (lv_at hl 1 rfl) ?_
                      refine mm_ald hcf hE hM 7 rfl (by decide) (i_504 / 4) (by show _ < 25; omega) rfl dX4_gather_102 ?_
                      refine lv_icmp_ge (tgt := 121) hx hb dX4_gather_103 (by decide) (fun c_519 => ?_) (fun c_519 => ?_)
                      · skip
                        exact J_528 H locs ls _ _ hM hS (lv_sub hl [2, 3, 4, 1, 0] rfl) (by first | rfl | (rw [if_neg c_516, if_neg c_517, if_neg c_518, if_pos c_519]) | (simp only [c_516, c_517, c_518, c_519, if_true, if_false, ite_true, ite_false, not_false_eq_true, reduceIte])) (by first | rfl | (rw [if_neg c_516, if_neg c_517, if_neg c_518, if_pos c_519]) | (simp only [c_516, c_517, c_518, c_519, if_true, if_false, ite_true, ite_false, not_false_eq_true, reduceIte]))
                      · refine lv_aload_n hx hb dX4_gather_106 rfl (lv_at hl 2 rfl) ?_
                        refine mm_get hcf hE hM 7 (by decide) q943 rfl rfl dX4_gather_107 ?_
                        refine lv_iload_n hx hb dX4_gather_110 rfl (lv_at hl 1 rfl) ?_
                        refine lv_aload_n hx hb dX4_gather_111 rfl (lv_at hl 2 rfl) ?_
                        refine mm_get hcf hE hM 7 (by decide) q943 rfl rfl dX4_gather_112 ?_
                        refine lv_iload hx hb dX4_gather_115 (lv_at hl 0 rfl) ?_
                        refine mm_ald hcf hE hM 7 rfl (by decide) ((besR (nI (i_504 / 4)) (nI (i_504 % 4))).toNatClampNeg) ((besR_ok (by omega) (by omega) : ok25 (besR (nI (i_504 / 4)) (nI (i_504 % 4)))).j c_516) ((besR_ok (by omega) (by omega) : ok25 (besR (nI (i_504 / 4)) (nI (i_504 % 4)))).e c_516) dX4_gather_117 ?_
                        refine mm_ast hcf hE hM hS 7 rfl (by decide) (i_504 / 4) (by show _ < 25; omega) rfl dX4_gather_118 (fun x_520 H locs ex_521 hM hS => ?_)
                        refine lv_iconst (v := 1) hx hb dX4_gather_119 (by decide) ?_
                        refine lv_istore_n (lv' := [(1, .int 1), (4, .int (besR (nI (i_504 / 4)) (nI (i_504 % 4)))), (3, .int (nI (i_504 / 4))), (0, .ref (ad 30 0)), (2, .int (nI i_504))]) hx hb dX4_gather_120 rfl hl (by decide) rfl (fun ls hl => ?_)
                        exact J_528 H locs ls _ _ hM hS (lv_sub hl [3, 0, 4, 2, 1] rfl) (by subst ex_521; first | rfl | (rw [if_neg c_516, if_neg c_517, if_neg c_518, if_neg c_519]) | (simp only [c_516, c_517, c_518, c_519, if_true, if_false, ite_true, ite_false, not_false_eq_true, reduceIte])) (by subst ex_521; first | rfl | (rw [if_neg c_516, if_neg c_517, if_neg c_518, if_neg c_519]) | (simp only [c_516, c_517, c_518, c_519, if_true, if_false, ite_true, ite_false, not_false_eq_true, reduceIte]))
            exact L_504 (100) 0 (by omega) H locs ls hM hS (lv_sub hl [2, 1, 0] rfl)
      exact Wh (2 * gaM (labI x 25) + 2) 0 (labI x 25) 1 (gaJ_0 x) (by rw [if_neg (by decide)]; omega) (by rw [if_neg (by decide)]; have := gaM_le (labI_ok x); omega) (fun h9 => absurd h9 (by decide)) H locs ls hM hS (lv_sub hl [1, 0] rfl)
    | succ n9 ih =>
      intro i_2 hi H locs ls hM hS hl 
      have hlt_i_2 : i_2 < 25 := by omega
      obtain ⟨x_8, ex_9⟩ : ∃ z : St, labI x i_2 = z := ⟨_, rfl⟩
      rw [ex_9] at hM
      refine lv_iload_n hx hb dX4_gather_2 rfl (lv_at hl 1 rfl) ?_
      refine lv_bipush (v := 25) hx hb dX4_gather_3 (by decide) ?_
      refine lv_icmp_ge (tgt := 34) hx hb dX4_gather_5 (by decide) (fun c9 => absurd c9 (nI_ge (a := i_2) (b := 25) (by omega) (by decide))) (fun _ => ?_)
      refine lv_aload_n hx hb dX4_gather_8 rfl (lv_at hl 0 rfl) ?_
      refine mm_get hcf hE hM 7 (by decide) q943 rfl rfl dX4_gather_9 ?_
      refine lv_iload_n hx hb dX4_gather_12 rfl (lv_at hl 1 rfl) ?_
      refine lv_aload_n hx hb dX4_gather_13 rfl (lv_at hl 0 rfl) ?_
      refine mm_get hcf hE hM 3 (by decide) q939 rfl rfl dX4_gather_14 ?_
      refine lv_iload_n hx hb dX4_gather_17 rfl (lv_at hl 1 rfl) ?_
      refine mm_ald hcf hE hM 3 rfl (by decide) i_2 (by show _ < 25; omega) rfl dX4_gather_18 ?_
      have J_13 : ∀ (v_11 : Int32), ((if (x_8.1 3 i_2) ≤ 0 then (-1) else (nI i_2)) = v_11) → W p l e rm_X4_gather s m args below meth c H locs 0 0 Q (F0 m 27 ls [.int v_11, .int (nI i_2), .ref (ad 31 7)]) := by
        intro v_11 ev_12
        refine mm_ast hcf hE hM hS 7 rfl (by decide) i_2 (by show _ < 25; omega) rfl dX4_gather_27 (fun x_14 H locs ex_15 hM hS => ?_)
        refine lv_iinc (v := nI (i_2 + 1)) (lv' := [(1, .int (nI (i_2 + 1))), (0, .ref (ad 30 0))]) hx hb dX4_gather_28 hl (k := 1) rfl (nI_add i_2 1) (by decide) rfl (fun ls hl => ?_)
        refine lv_goto (tgt := 2) hx hb dX4_gather_31 (by decide) ?_
        exact ih (i_2 + 1) (by omega) H locs ls (by have hF : x_14 = labI x (i_2 + 1) := (by subst ex_15 ev_12 ex_9; rfl); rw [← hF]; exact hM) hS (lv_sub hl [1, 0] (by subst ex_15 ev_12 ex_9; rfl))
      refine lv_if_le (tgt := 26) hx hb dX4_gather_19 (by decide) (fun c_10 => ?_) (fun c_10 => ?_)
      · refine lv_iconst (v := (-1)) hx hb dX4_gather_26 (by decide) ?_
        exact J_13 _ (by first | rfl | (rw [if_pos c_10]) | (simp only [c_10, if_true, if_false, ite_true, ite_false, not_false_eq_true, reduceIte]))
      · refine lv_iload_n hx hb dX4_gather_22 rfl (lv_at hl 1 rfl) ?_
        refine lv_goto (tgt := 27) hx hb dX4_gather_23 (by decide) ?_
        exact J_13 _ (by first | rfl | (rw [if_neg c_10]) | (simp only [c_10, if_true, if_false, ite_true, ite_false, not_false_eq_true, reduceIte]))
  exact L_2 (25) 0 (by omega) H locs ls hM hS (lv_sub hl [1, 0] rfl)
