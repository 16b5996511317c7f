/-! the reference: what a month does -/
set_option maxRecDepth 100000
def it {α : Type} (f : α → Nat → α) (a : α) : Nat → α
  | 0 => a
  | n + 1 => f (it f a n) n
theorem it_keep {α β : Type} (f : α → Nat → α) (π : α → β) (h : ∀ a k, π (f a k) = π a) (a : α) (n : Nat) : π (it f a n) = π a := by
  induction n with
  | zero => rfl
  | succ n ih => exact (h _ _).trans ih
def besR (c d : Int32) : Int32 := if d = 0 then (if 5 ≤ c then c - 5 else (-1)) else if d = 1 then (if c - c / 5 * 5 = 0 then (-1) else c - 1) else if d = 2 then (if c - c / 5 * 5 = 4 then (-1) else c + 1) else if c ≤ 19 then c + 5 else (-1)
/-- a cell's number, or none -/
def ok25 (n : Int32) : Prop := n = (-1) ∨ (n.toNatClampNeg < 25 ∧ n = nI n.toNatClampNeg)
theorem ok25.j {n : Int32} (h : ok25 n) (h1 : ¬ n = (-1)) : n.toNatClampNeg < 25 := (h.resolve_left h1).1
theorem ok25.e {n : Int32} (h : ok25 n) (h1 : ¬ n = (-1)) : n = nI n.toNatClampNeg := (h.resolve_left h1).2
theorem ok25_nI {j : Nat} (h : j < 25) : ok25 (nI j) := Or.inr ⟨by rw [nI_clamp (by omega)]; exact h, by rw [nI_clamp (by omega)]⟩
theorem besR_ok0 : ∀ c, c < 25 → ∀ d, d < 4 → (besR (nI c) (nI d) = (-1) ∨ ((besR (nI c) (nI d)).toNatClampNeg < 25 ∧ besR (nI c) (nI d) = nI (besR (nI c) (nI d)).toNatClampNeg)) := by decide +kernel
theorem besR_ok {c d : Nat} (hc : c < 25) (hd : d < 4) : ok25 (besR (nI c) (nI d)) := besR_ok0 c hc d hd
theorem besR_some0 : ∀ c, c < 25 → ¬ (besR (nI c) (nI 0) = (-1) ∧ besR (nI c) (nI 1) = (-1) ∧ besR (nI c) (nI 2) = (-1) ∧ besR (nI c) (nI 3) = (-1)) := by decide +kernel
def levF (x : St) (n : Int32) : Int32 := x.1 2 n.toNatClampNeg + x.1 3 n.toNatClampNeg
def floT (x : St) (b n : Int32) : Int32 := if n = (-1) then 0 else (if b = (-1) then 1 else (if levF x b ≤ levF x n then 0 else 1))
def floB (x : St) (b n : Int32) : Int32 := if floT x b n = 0 then b else n
def bstF (x : St) (c : Nat) : Nat → Int32 := it (fun b d => floB x b (besR (nI c) (nI d))) (-1)
theorem floB_ok {x : St} {b n : Int32} (hb : ok25 b) (hn : ok25 n) : ok25 (floB x b n) := by
  unfold floB
  split <;> assumption
theorem floB_some {x : St} {b n : Int32} (hb : ¬ b = (-1)) : ¬ floB x b n = (-1) := by
  unfold floB
  split
  · exact hb
  · rename_i h
    intro e
    exact h (by unfold floT; rw [if_pos e])
theorem floB_new {x : St} {n : Int32} (hn : ¬ n = (-1)) : ¬ floB x (-1) n = (-1) := by
  unfold floB floT
  rw [if_neg hn, if_pos rfl, if_neg (by decide)]
  exact hn
theorem bstF_ok {x : St} {c : Nat} (hc : c < 25) : ∀ i, i ≤ 4 → ok25 (bstF x c i) := by
  intro i
  induction i with
  | zero => intro _; exact Or.inl rfl
  | succ i ih => intro h; exact floB_ok (ih (by omega)) (besR_ok hc (by omega))
theorem bstF_some {x : St} {c : Nat} (hc : c < 25) : ¬ bstF x c 4 = (-1) := by
  have e1 : bstF x c 1 = floB x (-1) (besR (nI c) (nI 0)) := rfl
  have e2 : bstF x c 2 = floB x (bstF x c 1) (besR (nI c) (nI 1)) := rfl
  have e3 : bstF x c 3 = floB x (bstF x c 2) (besR (nI c) (nI 2)) := rfl
  have e4 : bstF x c 4 = floB x (bstF x c 3) (besR (nI c) (nI 3)) := rfl
  have h0 := besR_some0 c hc
  by_cases a0 : besR (nI c) (nI 0) = (-1)
  · by_cases b1 : bstF x c 1 = (-1)
    · by_cases a1 : besR (nI c) (nI 1) = (-1)
      · by_cases b2 : bstF x c 2 = (-1)
        · by_cases a2 : besR (nI c) (nI 2) = (-1)
          · by_cases b3 : bstF x c 3 = (-1)
            · rw [e4, b3]
              exact floB_new (fun a3 => h0 ⟨a0, a1, a2, a3⟩)
            · rw [e4]; exact floB_some b3
          · rw [e4, e3, b2]
            exact floB_some (floB_new a2)
        · rw [e4, e3]
          exact floB_some (floB_some b2)
      · rw [e4, e3, e2, b1]
        exact floB_some (floB_some (floB_new a1))
    · rw [e4, e3, e2]
      exact floB_some (floB_some (floB_some b1))
  · rw [e4, e3, e2, e1]
    exact floB_some (floB_some (floB_some (floB_new a0)))
def floF (x : St) (c : Nat) : St :=
  if x.1 2 c + x.1 3 c - x.1 2 (bstF x c 4).toNatClampNeg - x.1 3 (bstF x c 4).toNatClampNeg ≤ 1 then x
  else sI (sI x 3 c (x.1 3 c - lesF (x.1 3 c) ((x.1 2 c + x.1 3 c - x.1 2 (bstF x c 4).toNatClampNeg - x.1 3 (bstF x c 4).toNatClampNeg) / 2))) 3 (bstF x c 4).toNatClampNeg ((sI x 3 c (x.1 3 c - lesF (x.1 3 c) ((x.1 2 c + x.1 3 c - x.1 2 (bstF x c 4).toNatClampNeg - x.1 3 (bstF x c 4).toNatClampNeg) / 2))).1 3 (bstF x c 4).toNatClampNeg + lesF (x.1 3 c) ((x.1 2 c + x.1 3 c - x.1 2 (bstF x c 4).toNatClampNeg - x.1 3 (bstF x c 4).toNatClampNeg) / 2))
/-- the coldest cell, of the first i + 1 -/
def cldN (x : St) : Nat → Nat := it (fun b i => if degF x (5 * b + 1) ≤ degF x (5 * (i + 1) + 1) then b else i + 1) 0
theorem cldN_le (x : St) : ∀ i, cldN x i ≤ i := by
  intro i
  induction i with
  | zero => exact Nat.le_refl _
  | succ i ih =>
    have e : cldN x (i + 1) = if degF x (5 * cldN x i + 1) ≤ degF x (5 * (i + 1) + 1) then cldN x i else i + 1 := rfl
    rw [e]
    split
    · omega
    · exact Nat.le_refl _
def craW (x : St) (b : Nat) : St := sI x 6 b (x.1 6 b + 1)
def craF (x : St) : St :=
  if degF x (5 * cldN x 24 + 1) ≤ (-10) then
    (if x.1 3 (cldN x 24) ≤ 0 then craW x (cldN x 24) else if 9 ≤ x.1 9 (5 * cldN x 24 + 1) then craW x (cldN x 24)
      else sI (sI (sI (sI (craW x (cldN x 24)) 3 (cldN x 24) (x.1 3 (cldN x 24) - 1)) 9 (5 * cldN x 24 + 1) (x.1 9 (5 * cldN x 24 + 1) + 1)) 2 (cldN x 24) (x.1 2 (cldN x 24) + 1)) 10 (5 * cldN x 24 + 1) (x.1 10 (5 * cldN x 24 + 1) + 1000))
  else x
def wokF (x : St) (k : Nat) : Int32 := lesF ((degF x k).toInt64 * (x.1 11 k).toInt64 / 1000).toInt32 (x.1 11 k)
def wakL (x : St) (c k : Nat) : St :=
  if degF x k ≤ 0 then x else
    sL (sL (sI x 11 k (x.1 11 k - wokF x k)) 31 ((sI x 11 k (x.1 11 k - wokF x k)).2 31 + (if lakF (sI x 11 k (x.1 11 k - wokF x k)) c = 0 then 0 else (wokF x k).toInt64))) 30 ((sL (sI x 11 k (x.1 11 k - wokF x k)) 31 ((sI x 11 k (x.1 11 k - wokF x k)).2 31 + (if lakF (sI x 11 k (x.1 11 k - wokF x k)) c = 0 then 0 else (wokF x k).toInt64))).2 30 + (if lakF (sL (sI x 11 k (x.1 11 k - wokF x k)) 31 ((sI x 11 k (x.1 11 k - wokF x k)).2 31 + (if lakF (sI x 11 k (x.1 11 k - wokF x k)) c = 0 then 0 else (wokF x k).toInt64))) c = 0 then (wokF x k).toInt64 else 0))
def wakM (x : St) (c : Nat) : Nat → St := it (fun y i => wakL y c (5 * c + i)) x
def wakF (x : St) (c : Nat) (air : Int32) : St :=
  if air ≤ 0 then wakM x c 5 else if lakF (wakM x c 5) c = 0 then sI (sL (wakM x c 5) 30 ((wakM x c 5).2 30 - ((wakM x c 5).1 5 c).toInt64)) 11 (5 * c) ((sL (wakM x c 5) 30 ((wakM x c 5).2 30 - ((wakM x c 5).1 5 c).toInt64)).1 11 (5 * c) + (sL (wakM x c 5) 30 ((wakM x c 5).2 30 - ((wakM x c 5).1 5 c).toInt64)).1 5 c) else wakM x c 5
abbrev rm_X4_beside : Room := { frames := 0, cells := 0, slots := 0, locals := 0 }
set_option maxHeartbeats 400000 in
theorem k_X4_beside (l : Launch) (g : GG) (A : Nat → Prop) (M : MM) (a0 a1 : Int32) : Met l yX4_beside (ws_ yX4_beside cX4_beside 2 (some .int)) rm_X4_beside (va_Pc [.int a0, .int a1] (mPre g A (M))) (pQi g A (besR a0 a1) M) 0 0 A := by
  refine m_start RX4 rfl (by decide) (Nat.le_of_ble_eq_true rfl) ?_
  intro p e s m args below meth c hcf hr hlk hnm hE hA H locs hM hS ls hl
  have hx := hcf.1
  have hb := hcf.2.1
  have hml := hcf.2.2.1
  have hown := hcf.2.2.2.1
  have hts := hcf.2.2.2.2
  have hl : lv_has ls 2 [(0, .int a0), (1, .int a1)] := hl
  generalize hQ : MQ below (pQi g A (besR a0 a1) M) args s 0 0 A = Q
  refine lv_iload_n hx hb dX4_beside_0 rfl (lv_at hl 1 rfl) ?_
  refine lv_if_ne (tgt := 17) hx hb dX4_beside_1 (by decide) (fun c_1 => ?_) (fun c_1 => ?_)
  · refine lv_iload_n hx hb dX4_beside_17 rfl (lv_at hl 1 rfl) ?_
    refine lv_iconst (v := 1) hx hb dX4_beside_18 (by decide) ?_
    refine lv_icmp_ne (tgt := 36) hx hb dX4_beside_19 (by decide) (fun c_2 => ?_) (fun c_2 => ?_)
    · refine lv_iload_n hx hb dX4_beside_36 rfl (lv_at hl 1 rfl) ?_
      refine lv_iconst (v := 2) hx hb dX4_beside_37 (by decide) ?_
      refine lv_icmp_ne (tgt := 56) hx hb dX4_beside_38 (by decide) (fun c_3 => ?_) (fun c_3 => ?_)
      · refine lv_iload_n hx hb dX4_beside_56 rfl (lv_at hl 0 rfl) ?_
        refine lv_bipush (v := 19) hx hb dX4_beside_57 (by decide) ?_
        have J_7 : ∀ (v_5 : Int32), ((if a0 ≤ 19 then (a0 + 5) else (-1)) = v_5) → W p l e rm_X4_beside s m args below meth c H locs 0 0 Q (F0 m 69 ls [.int v_5]) := by
          intro v_5 ev_6
          rw [← hQ]
          exact m_iret () hx hb hr (by subst ev_6; first | rfl | exact rfl) hlk hM hS (by subst ev_6; first | rfl | (unfold besR; rfl) | (unfold besR; rw [if_neg c_1, if_neg c_2, if_neg c_3] <;> rfl) | (unfold besR; simp only [c_1, c_2, c_3, if_true, if_false, ite_true, ite_false, not_false_eq_true, reduceIte] <;> rfl) | (rw [if_neg c_1, if_neg c_2, if_neg c_3] <;> rfl)) (by first | decide | omega) (by first | decide | omega) dX4_beside_69
        refine lv_icmp_le (tgt := 66) hx hb dX4_beside_59 (by decide) (fun c_4 => ?_) (fun c_4 => ?_)
        · refine lv_iload_n hx hb dX4_beside_66 rfl (lv_at hl 0 rfl) ?_
          refine lv_iconst (v := 5) hx hb dX4_beside_67 (by decide) ?_
          refine lv_iadd hx hb dX4_beside_68 ?_
          exact J_7 _ (by first | rfl | (rw [if_pos c_4]) | (simp only [c_4, if_true, if_false, ite_true, ite_false, not_false_eq_true, reduceIte]))
        · refine lv_iconst (v := (-1)) hx hb dX4_beside_62 (by decide) ?_
          refine lv_goto (tgt := 69) hx hb dX4_beside_63 (by decide) ?_
          exact J_7 _ (by first | rfl | (rw [if_neg c_4]) | (simp only [c_4, if_true, if_false, ite_true, ite_false, not_false_eq_true, reduceIte]))
      · refine lv_iload_n hx hb dX4_beside_41 rfl (lv_at hl 0 rfl) ?_
        refine lv_iconst (v := 5) hx hb dX4_beside_42 (by decide) ?_
        refine lv_irem hx hb dX4_beside_43 (by decide) ?_
        refine lv_iconst (v := 4) hx hb dX4_beside_44 (by decide) ?_
        have J_11 : ∀ (v_9 : Int32), ((if (a0 - a0 / 5 * 5) = 4 then (-1) else (a0 + 1)) = v_9) → W p l e rm_X4_beside s m args below meth c H locs 0 0 Q (F0 m 55 ls [.int v_9]) := by
          intro v_9 ev_10
          rw [← hQ]
          exact m_iret () hx hb hr (by subst ev_10; first | rfl | exact rfl) hlk hM hS (by subst ev_10; first | rfl | (unfold besR; rfl) | (unfold besR; rw [if_neg c_1, if_neg c_2, if_pos c_3] <;> rfl) | (unfold besR; simp only [c_1, c_2, c_3, if_true, if_false, ite_true, ite_false, not_false_eq_true, reduceIte] <;> rfl) | (rw [if_neg c_1, if_neg c_2, if_pos c_3] <;> rfl)) (by first | decide | omega) (by first | decide | omega) dX4_beside_55
        refine lv_icmp_ne (tgt := 52) hx hb dX4_beside_45 (by decide) (fun c_8 => ?_) (fun c_8 => ?_)
        · refine lv_iload_n hx hb dX4_beside_52 rfl (lv_at hl 0 rfl) ?_
          refine lv_iconst (v := 1) hx hb dX4_beside_53 (by decide) ?_
          refine lv_iadd hx hb dX4_beside_54 ?_
          exact J_11 _ (by first | rfl | (rw [if_neg c_8]) | (simp only [c_8, if_true, if_false, ite_true, ite_false, not_false_eq_true, reduceIte]))
        · refine lv_iconst (v := (-1)) hx hb dX4_beside_48 (by decide) ?_
          refine lv_goto (tgt := 55) hx hb dX4_beside_49 (by decide) ?_
          exact J_11 _ (by first | rfl | (rw [if_pos c_8]) | (simp only [c_8, if_true, if_false, ite_true, ite_false, not_false_eq_true, reduceIte]))
    · refine lv_iload_n hx hb dX4_beside_22 rfl (lv_at hl 0 rfl) ?_
      refine lv_iconst (v := 5) hx hb dX4_beside_23 (by decide) ?_
      refine lv_irem hx hb dX4_beside_24 (by decide) ?_
      have J_15 : ∀ (v_13 : Int32), ((if (a0 - a0 / 5 * 5) = 0 then (-1) else (a0 - 1)) = v_13) → W p l e rm_X4_beside s m args below meth c H locs 0 0 Q (F0 m 35 ls [.int v_13]) := by
        intro v_13 ev_14
        rw [← hQ]
        exact m_iret () hx hb hr (by subst ev_14; first | rfl | exact rfl) hlk hM hS (by subst ev_14; first | rfl | (unfold besR; rfl) | (unfold besR; rw [if_neg c_1, if_pos c_2] <;> rfl) | (unfold besR; simp only [c_1, c_2, if_true, if_false, ite_true, ite_false, not_false_eq_true, reduceIte] <;> rfl) | (rw [if_neg c_1, if_pos c_2] <;> rfl)) (by first | decide | omega) (by first | decide | omega) dX4_beside_35
      refine lv_if_ne (tgt := 32) hx hb dX4_beside_25 (by decide) (fun c_12 => ?_) (fun c_12 => ?_)
      · refine lv_iload_n hx hb dX4_beside_32 rfl (lv_at hl 0 rfl) ?_
        refine lv_iconst (v := 1) hx hb dX4_beside_33 (by decide) ?_
        refine lv_isub hx hb dX4_beside_34 ?_
        exact J_15 _ (by first | rfl | (rw [if_neg c_12]) | (simp only [c_12, if_true, if_false, ite_true, ite_false, not_false_eq_true, reduceIte]))
      · refine lv_iconst (v := (-1)) hx hb dX4_beside_28 (by decide) ?_
        refine lv_goto (tgt := 35) hx hb dX4_beside_29 (by decide) ?_
        exact J_15 _ (by first | rfl | (rw [if_pos c_12]) | (simp only [c_12, if_true, if_false, ite_true, ite_false, not_false_eq_true, reduceIte]))
  · refine lv_iload_n hx hb dX4_beside_4 rfl (lv_at hl 0 rfl) ?_
    refine lv_iconst (v := 5) hx hb dX4_beside_5 (by decide) ?_
    have J_19 : ∀ (v_17 : Int32), ((if 5 ≤ a0 then (a0 - 5) else (-1)) = v_17) → W p l e rm_X4_beside s m args below meth c H locs 0 0 Q (F0 m 16 ls [.int v_17]) := by
      intro v_17 ev_18
      rw [← hQ]
      exact m_iret () hx hb hr (by subst ev_18; first | rfl | exact rfl) hlk hM hS (by subst ev_18; first | rfl | (unfold besR; rfl) | (unfold besR; rw [if_pos c_1] <;> rfl) | (unfold besR; simp only [c_1, if_true, if_false, ite_true, ite_false, not_false_eq_true, reduceIte] <;> rfl) | (rw [if_pos c_1] <;> rfl)) (by first | decide | omega) (by first | decide | omega) dX4_beside_16
    refine lv_icmp_ge (tgt := 13) hx hb dX4_beside_6 (by decide) (fun c_16 => ?_) (fun c_16 => ?_)
    · refine lv_iload_n hx hb dX4_beside_13 rfl (lv_at hl 0 rfl) ?_
      refine lv_iconst (v := 5) hx hb dX4_beside_14 (by decide) ?_
      refine lv_isub hx hb dX4_beside_15 ?_
      exact J_19 _ (by first | rfl | (rw [if_pos c_16]) | (simp only [c_16, if_true, if_false, ite_true, ite_false, not_false_eq_true, reduceIte]))
    · refine lv_iconst (v := (-1)) hx hb dX4_beside_9 (by decide) ?_
      refine lv_goto (tgt := 16) hx hb dX4_beside_10 (by decide) ?_
      exact J_19 _ (by first | rfl | (rw [if_neg c_16]) | (simp only [c_16, if_true, if_false, ite_true, ite_false, not_false_eq_true, reduceIte]))

abbrev rm_X4_flow : Room := { frames := 1, cells := 0, slots := 0, locals := 21 }
set_option maxHeartbeats 400000 in
theorem k_X4_flow (l : Launch) (g : GG) (A : Nat → Prop) (ad : Nat → Nat → Nat) (x : St) (k : Nat) (hk : k < 25) : Met l yX4_flow (ws_ yX4_flow cX4_flow 6 none) rm_X4_flow (va_Pc [.ref (ad 30 0), .int (nI k)] (mPre g A (mwM g ad x))) (pQv g A (mwM g ad (floF x k))) 0 0 A := by
  refine m_start RX4 rfl (by decide) (Nat.le_of_ble_eq_true rfl) ?_
  intro p e s m args below meth c hcf hr hlk hnm hE hA H locs hM hS ls hl
  have hx := hcf.1
  have hb := hcf.2.1
  have hml := hcf.2.2.1
  have hown := hcf.2.2.2.1
  have hts := hcf.2.2.2.2
  have hl : lv_has ls 6 [(0, .ref (ad 30 0)), (1, .int (nI k))] := hl
  generalize hQ : MQ below (pQv g A (mwM g ad (floF x k))) args s 0 0 A = Q
  refine lv_iconst (v := (-1)) hx hb dX4_flow_0 (by decide) ?_
  refine lv_istore_n (lv' := [(2, .int (-1)), (0, .ref (ad 30 0)), (1, .int (nI k))]) hx hb dX4_flow_1 rfl hl (by decide) rfl (fun ls hl => ?_)
  refine lv_iconst (v := 0) hx hb dX4_flow_2 (by decide) ?_
  refine lv_istore_n (lv' := [(3, .int 0), (2, .int (-1)), (0, .ref (ad 30 0)), (1, .int (nI k))]) hx hb dX4_flow_3 rfl hl (by decide) rfl (fun ls hl => ?_)
  have L_3 : ∀ (n i_3 : Nat), i_3 + n = 4 → ∀ (H : Heap) (locs : List Loc) (ls : Array Slot), mW g.1 A (mwM g ad x) H → va_S A s.heap H locs → lv_has ls 6 [(0, .ref (ad 30 0)), (1, .int (nI k)), (2, .int (bstF x k i_3)), (3, .int (nI i_3))] → W p l e rm_X4_flow s m args below meth c H locs 0 0 Q (F0 m 4 ls []) := by
    intro n
    induction n with
    | zero =>
      intro i_3 hi H locs ls hM hS hl 
      have hi : i_3 = 4 := by omega
      subst hi
      refine lv_iload_n hx hb dX4_flow_4 rfl (lv_at hl 3 rfl) ?_
      refine lv_iconst (v := 4) hx hb dX4_flow_5 (by decide) ?_
      refine lv_icmp_ge (tgt := 83) hx hb dX4_flow_6 (by decide) (fun _ => ?_) (fun c9 => absurd (by decide) c9)
      refine lv_aload_n hx hb dX4_flow_83 rfl (lv_at hl 0 rfl) ?_
      refine mm_get hcf hE hM 2 (by decide) q938 rfl rfl dX4_flow_84 ?_
      refine lv_iload_n hx hb dX4_flow_87 rfl (lv_at hl 1 rfl) ?_
      refine mm_ald hcf hE hM 2 rfl (by decide) k (by show _ < 25; omega) rfl dX4_flow_88 ?_
      refine lv_aload_n hx hb dX4_flow_89 rfl (lv_at hl 0 rfl) ?_
      refine mm_get hcf hE hM 3 (by decide) q939 rfl rfl dX4_flow_90 ?_
      refine lv_iload_n hx hb dX4_flow_93 rfl (lv_at hl 1 rfl) ?_
      refine mm_ald hcf hE hM 3 rfl (by decide) k (by show _ < 25; omega) rfl dX4_flow_94 ?_
      refine lv_iadd hx hb dX4_flow_95 ?_
      refine lv_aload_n hx hb dX4_flow_96 rfl (lv_at hl 0 rfl) ?_
      refine mm_get hcf hE hM 2 (by decide) q938 rfl rfl dX4_flow_97 ?_
      refine lv_iload_n hx hb dX4_flow_100 rfl (lv_at hl 2 rfl) ?_
      refine mm_ald hcf hE hM 2 rfl (by decide) ((bstF x k 4).toNatClampNeg) ((bstF_ok hk 4 (Nat.le_refl _)).j (bstF_some hk)) ((bstF_ok hk 4 (Nat.le_refl _)).e (bstF_some hk)) dX4_flow_101 ?_
      refine lv_isub hx hb dX4_flow_102 ?_
      refine lv_aload_n hx hb dX4_flow_103 rfl (lv_at hl 0 rfl) ?_
      refine mm_get hcf hE hM 3 (by decide) q939 rfl rfl dX4_flow_104 ?_
      refine lv_iload_n hx hb dX4_flow_107 rfl (lv_at hl 2 rfl) ?_
      refine mm_ald hcf hE hM 3 rfl (by decide) ((bstF x k 4).toNatClampNeg) ((bstF_ok hk 4 (Nat.le_refl _)).j (bstF_some hk)) ((bstF_ok hk 4 (Nat.le_refl _)).e (bstF_some hk)) dX4_flow_108 ?_
      refine lv_isub hx hb dX4_flow_109 ?_
      refine lv_istore_n (lv' := [(3, .int ((((x.1 2 k) + (x.1 3 k)) - (x.1 2 ((bstF x k 4).toNatClampNeg))) - (x.1 3 ((bstF x k 4).toNatClampNeg)))), (0, .ref (ad 30 0)), (1, .int (nI k)), (2, .int (bstF x k 4))]) hx hb dX4_flow_110 rfl hl (by decide) rfl (fun ls hl => ?_)
      refine lv_iload_n hx hb dX4_flow_111 rfl (lv_at hl 0 rfl) ?_
      refine lv_iconst (v := 1) hx hb dX4_flow_112 (by decide) ?_
      have J_18 : ∀ (H : Heap) (locs : List Loc) (ls : Array Slot) (x_15 : St), mW g.1 A (mwM g ad x_15) H → va_S A s.heap H locs → lv_has ls 6 [(0, .ref (ad 30 0)), (1, .int (nI k)), (2, .int (bstF x k 4)), (3, .int ((((x.1 2 k) + (x.1 3 k)) - (x.1 2 ((bstF x k 4).toNatClampNeg))) - (x.1 3 ((bstF x k 4).toNatClampNeg))))] → ((if ((((x.1 2 k) + (x.1 3 k)) - (x.1 2 ((bstF x k 4).toNatClampNeg))) - (x.1 3 ((bstF x k 4).toNatClampNeg))) ≤ 1 then x else (sI (sI x 3 k ((x.1 3 k) - (lesF (x.1 3 k) (((((x.1 2 k) + (x.1 3 k)) - (x.1 2 ((bstF x k 4).toNatClampNeg))) - (x.1 3 ((bstF x k 4).toNatClampNeg))) / 2)))) 3 ((bstF x k 4).toNatClampNeg) (((sI x 3 k ((x.1 3 k) - (lesF (x.1 3 k) (((((x.1 2 k) + (x.1 3 k)) - (x.1 2 ((bstF x k 4).toNatClampNeg))) - (x.1 3 ((bstF x k 4).toNatClampNeg))) / 2)))).1 3 ((bstF x k 4).toNatClampNeg)) + (lesF (x.1 3 k) (((((x.1 2 k) + (x.1 3 k)) - (x.1 2 ((bstF x k 4).toNatClampNeg))) - (x.1 3 ((bstF x k 4).toNatClampNeg))) / 2))))) = x_15) → W p l e rm_X4_flow s m args below meth c H locs 0 0 Q (F0 m 152 ls []) := by
        intro H locs ls x_15 hM hS hl ex_16
        rw [← hQ]
        exact m_vret () hx hb hr hlk (by have hF : x_15 = floF x k := (by subst ex_16; first | rfl | (unfold floF; rfl)); rw [← hF]; exact hM) hS trivial (by first | decide | omega) (by first | decide | omega) dX4_flow_152
      refine lv_icmp_le (tgt := 152) hx hb dX4_flow_113 (by decide) (fun c_6 => ?_) (fun c_6 => ?_)
      · skip
        exact J_18 H locs ls _ hM hS (lv_sub hl [1, 2, 3, 0] rfl) (by first | rfl | (rw [if_pos c_6]) | (simp only [c_6, if_true, if_false, ite_true, ite_false, not_false_eq_true, reduceIte]))
      · refine lv_aload_n hx hb dX4_flow_116 rfl (lv_at hl 1 rfl) ?_
        refine mm_get hcf hE hM 3 (by decide) q939 rfl rfl dX4_flow_117 ?_
        refine lv_iload_n hx hb dX4_flow_120 rfl (lv_at hl 2 rfl) ?_
        refine mm_ald hcf hE hM 3 rfl (by decide) k (by show _ < 25; omega) rfl dX4_flow_121 ?_
        refine lv_iload_n hx hb dX4_flow_122 rfl (lv_at hl 0 rfl) ?_
        refine lv_iconst (v := 2) hx hb dX4_flow_123 (by decide) ?_
        refine lv_idiv hx hb dX4_flow_124 (by decide) ?_
        refine m_cpi (m_rS (As := [.int (x.1 3 k), .int (((((x.1 2 k) + (x.1 3 k)) - (x.1 2 ((bstF x k 4).toNatClampNeg))) - (x.1 3 ((bstF x k 4).toNatClampNeg))) / 2)]) (rest := []) hcf (k_X4_lesser l g A (mwM g ad x) (x.1 3 k) (((((x.1 2 k) + (x.1 3 k)) - (x.1 2 ((bstF x k 4).toNatClampNeg))) - (x.1 3 ((bstF x k 4).toNatClampNeg))) / 2)) (va_cwS 2 hts (lw_S q1063 q1064 q41 q1065) rfl rfl rfl (by decide +kernel) ⟨Nat.le_of_ble_eq_true rfl, Nat.le_of_ble_eq_true rfl⟩) hE hA hM hS rfl hl.1 rfl (Nat.le_of_ble_eq_true rfl) dX4_flow_125 ⟨Nat.le_of_ble_eq_true rfl, Nat.le_of_ble_eq_true rfl⟩) hS (fun H locs hM hS => ?_)
        refine lv_istore (lv' := [(4, .int (lesF (x.1 3 k) (((((x.1 2 k) + (x.1 3 k)) - (x.1 2 ((bstF x k 4).toNatClampNeg))) - (x.1 3 ((bstF x k 4).toNatClampNeg))) / 2))), (3, .int ((((x.1 2 k) + (x.1 3 k)) - (x.1 2 ((bstF x k 4).toNatClampNeg))) - (x.1 3 ((bstF x k 4).toNatClampNeg)))), (0, .ref (ad 30 0)), (1, .int (nI k)), (2, .int (bstF x k 4))]) hx hb dX4_flow_128 hl (by decide) rfl (fun ls hl => ?_)
        refine lv_aload_n hx hb dX4_flow_130 rfl (lv_at hl 2 rfl) ?_
        refine mm_get hcf hE hM 3 (by decide) q939 rfl rfl dX4_flow_131 ?_
        refine lv_iload_n hx hb dX4_flow_134 rfl (lv_at hl 3 rfl) ?_
        refine lv_dup2_11 hx hb dX4_flow_135 rfl rfl ?_
        refine mm_ald hcf hE hM 3 rfl (by decide) k (by show _ < 25; omega) rfl dX4_flow_136 ?_
        refine lv_iload hx hb dX4_flow_137 (lv_at hl 0 rfl) ?_
        refine lv_isub hx hb dX4_flow_139 ?_
        refine mm_ast hcf hE hM hS 3 rfl (by decide) k (by show _ < 25; omega) rfl dX4_flow_140 (fun x_11 H locs ex_12 hM hS => ?_)
        refine lv_aload_n hx hb dX4_flow_141 rfl (lv_at hl 2 rfl) ?_
        refine mm_get hcf hE hM 3 (by decide) q939 rfl rfl dX4_flow_142 ?_
        refine lv_iload_n hx hb dX4_flow_145 rfl (lv_at hl 4 rfl) ?_
        refine lv_dup2_11 hx hb dX4_flow_146 rfl rfl ?_
        refine mm_ald hcf hE hM 3 rfl (by decide) ((bstF x k 4).toNatClampNeg) ((bstF_ok hk 4 (Nat.le_refl _)).j (bstF_some hk)) ((bstF_ok hk 4 (Nat.le_refl _)).e (bstF_some hk)) dX4_flow_147 ?_
        refine lv_iload hx hb dX4_flow_148 (lv_at hl 0 rfl) ?_
        refine lv_iadd hx hb dX4_flow_150 ?_
        refine mm_ast hcf hE hM hS 3 rfl (by decide) ((bstF x k 4).toNatClampNeg) ((bstF_ok hk 4 (Nat.le_refl _)).j (bstF_some hk)) ((bstF_ok hk 4 (Nat.le_refl _)).e (bstF_some hk)) dX4_flow_151 (fun x_13 H locs ex_14 hM hS => ?_)
        exact J_18 H locs ls _ hM hS (lv_sub hl [2, 3, 4, 1] rfl) (by subst ex_14; subst ex_12; first | rfl | (rw [if_neg c_6]) | (simp only [c_6, if_true, if_false, ite_true, ite_false, not_false_eq_true, reduceIte]))
    | succ n ih =>
      intro i_3 hi H locs ls hM hS hl 
      have hlt_i_3 : i_3 < 4 := by omega
      refine lv_iload_n hx hb dX4_flow_4 rfl (lv_at hl 3 rfl) ?_
      refine lv_iconst (v := 4) hx hb dX4_flow_5 (by decide) ?_
      refine lv_icmp_ge (tgt := 83) hx hb dX4_flow_6 (by decide) (fun c9 => absurd c9 (nI_ge (a := i_3) (b := 4) (by omega) (by decide))) (fun _ => ?_)
      refine lv_iload_n hx hb dX4_flow_9 rfl (lv_at hl 1 rfl) ?_
      refine lv_iload_n hx hb dX4_flow_10 rfl (lv_at hl 3 rfl) ?_
      refine m_cpi (m_rS (As := [.int (nI k), .int (nI i_3)]) (rest := []) hcf (k_X4_beside l g A (mwM g ad x) (nI k) (nI i_3)) (va_cwS 2 hts (lw_S q1097 q1098 q41 q1099) rfl rfl rfl (by decide +kernel) ⟨Nat.le_of_ble_eq_true rfl, Nat.le_of_ble_eq_true rfl⟩) hE hA hM hS rfl hl.1 rfl (Nat.le_of_ble_eq_true rfl) dX4_flow_11 ⟨Nat.le_of_ble_eq_true rfl, Nat.le_of_ble_eq_true rfl⟩) hS (fun H locs hM hS => ?_)
      refine lv_istore (lv' := [(4, .int (besR (nI k) (nI i_3))), (0, .ref (ad 30 0)), (1, .int (nI k)), (2, .int (bstF x k i_3)), (3, .int (nI i_3))]) hx hb dX4_flow_14 hl (by decide) rfl (fun ls hl => ?_)
      refine lv_iload hx hb dX4_flow_16 (lv_at hl 0 rfl) ?_
      refine lv_iconst (v := (-1)) hx hb dX4_flow_18 (by decide) ?_
      have J_29 : ∀ (v_27 : Int32), ((if (besR (nI k) (nI i_3)) = (-1) then 0 else (if (bstF x k i_3) = (-1) then 1 else (if ((x.1 2 ((bstF x k i_3).toNatClampNeg)) + (x.1 3 ((bstF x k i_3).toNatClampNeg))) ≤ ((x.1 2 ((besR (nI k) (nI i_3)).toNatClampNeg)) + (x.1 3 ((besR (nI k) (nI i_3)).toNatClampNeg))) then 0 else 1))) = v_27) → W p l e rm_X4_flow s m args below meth c H locs 0 0 Q (F0 m 63 ls [.int v_27]) := by
        intro v_27 ev_28
        refine lv_istore (lv' := [(5, .int v_27), (4, .int (besR (nI k) (nI i_3))), (0, .ref (ad 30 0)), (1, .int (nI k)), (2, .int (bstF x k i_3)), (3, .int (nI i_3))]) hx hb dX4_flow_63 hl (by decide) rfl (fun ls hl => ?_)
        refine lv_iload hx hb dX4_flow_65 (lv_at hl 0 rfl) ?_
        have J_34 : ∀ (v_32 : Int32), ((if v_27 = 0 then (bstF x k i_3) else (besR (nI k) (nI i_3))) = v_32) → W p l e rm_X4_flow s m args below meth c H locs 0 0 Q (F0 m 76 ls [.int v_32]) := by
          intro v_32 ev_33
          refine lv_istore_n (lv' := [(2, .int v_32), (5, .int v_27), (4, .int (besR (nI k) (nI i_3))), (0, .ref (ad 30 0)), (1, .int (nI k)), (3, .int (nI i_3))]) hx hb dX4_flow_76 rfl hl (by decide) rfl (fun ls hl => ?_)
          refine lv_iinc (v := nI (i_3 + 1)) (lv' := [(3, .int (nI (i_3 + 1))), (2, .int v_32), (5, .int v_27), (4, .int (besR (nI k) (nI i_3))), (0, .ref (ad 30 0)), (1, .int (nI k))]) hx hb dX4_flow_77 hl (k := 5) rfl (nI_add i_3 1) (by decide) rfl (fun ls hl => ?_)
          refine lv_goto (tgt := 4) hx hb dX4_flow_80 (by decide) ?_
          exact ih (i_3 + 1) (by omega) H locs ls hM hS (lv_sub hl [4, 5, 1, 0] (by subst ev_33 ev_28; rfl))
        refine lv_if_eq (tgt := 75) hx hb dX4_flow_67 (by decide) (fun c_31 => ?_) (fun c_31 => ?_)
        · refine lv_iload_n hx hb dX4_flow_75 rfl (lv_at hl 4 rfl) ?_
          exact J_34 _ (by first | rfl | (rw [if_pos c_31]) | (simp only [c_31, if_true, if_false, ite_true, ite_false, not_false_eq_true, reduceIte]))
        · refine lv_iload hx hb dX4_flow_70 (lv_at hl 1 rfl) ?_
          refine lv_goto (tgt := 76) hx hb dX4_flow_72 (by decide) ?_
          exact J_34 _ (by first | rfl | (rw [if_neg c_31]) | (simp only [c_31, if_true, if_false, ite_true, ite_false, not_false_eq_true, reduceIte]))
      refine lv_icmp_eq (tgt := 62) hx hb dX4_flow_19 (by decide) (fun c_24 => ?_) (fun c_24 => ?_)
      · refine lv_iconst (v := 0) hx hb dX4_flow_62 (by decide) ?_
        exact J_29 _ (by first | rfl | (rw [if_pos c_24]) | (simp only [c_24, if_true, if_false, ite_true, ite_false, not_false_eq_true, reduceIte]))
      · refine lv_iload_n hx hb dX4_flow_22 rfl (lv_at hl 3 rfl) ?_
        refine lv_iconst (v := (-1)) hx hb dX4_flow_23 (by decide) ?_
        refine lv_icmp_eq (tgt := 58) hx hb dX4_flow_24 (by decide) (fun c_25 => ?_) (fun c_25 => ?_)
        · refine lv_iconst (v := 1) hx hb dX4_flow_58 (by decide) ?_
          refine lv_goto (tgt := 63) hx hb dX4_flow_59 (by decide) ?_
          exact J_29 _ (by first | rfl | (rw [if_neg c_24, if_pos c_25]) | (simp only [c_24, c_25, if_true, if_false, ite_true, ite_false, not_false_eq_true, reduceIte]))
        · refine lv_aload_n hx hb dX4_flow_27 rfl (lv_at hl 1 rfl) ?_
          refine mm_get hcf hE hM 2 (by decide) q938 rfl rfl dX4_flow_28 ?_
          refine lv_iload hx hb dX4_flow_31 (lv_at hl 0 rfl) ?_
          refine mm_ald hcf hE hM 2 rfl (by decide) ((besR (nI k) (nI i_3)).toNatClampNeg) ((besR_ok hk (by omega) : ok25 (besR (nI k) (nI i_3))).j c_24) ((besR_ok hk (by omega) : ok25 (besR (nI k) (nI i_3))).e c_24) dX4_flow_33 ?_
          refine lv_aload_n hx hb dX4_flow_34 rfl (lv_at hl 1 rfl) ?_
          refine mm_get hcf hE hM 3 (by decide) q939 rfl rfl dX4_flow_35 ?_
          refine lv_iload hx hb dX4_flow_38 (lv_at hl 0 rfl) ?_
          refine mm_ald hcf hE hM 3 rfl (by decide) ((besR (nI k) (nI i_3)).toNatClampNeg) ((besR_ok hk (by omega) : ok25 (besR (nI k) (nI i_3))).j c_24) ((besR_ok hk (by omega) : ok25 (besR (nI k) (nI i_3))).e c_24) dX4_flow_40 ?_
          refine lv_iadd hx hb dX4_flow_41 ?_
          refine lv_aload_n hx hb dX4_flow_42 rfl (lv_at hl 1 rfl) ?_
          refine mm_get hcf hE hM 2 (by decide) q938 rfl rfl dX4_flow_43 ?_
          refine lv_iload_n hx hb dX4_flow_46 rfl (lv_at hl 3 rfl) ?_
          refine mm_ald hcf hE hM 2 rfl (by decide) ((bstF x k i_3).toNatClampNeg) ((bstF_ok hk i_3 (by omega)).j c_25) ((bstF_ok hk i_3 (by omega)).e c_25) dX4_flow_47 ?_
          refine lv_aload_n hx hb dX4_flow_48 rfl (lv_at hl 1 rfl) ?_
          refine mm_get hcf hE hM 3 (by decide) q939 rfl rfl dX4_flow_49 ?_
          refine lv_iload_n hx hb dX4_flow_52 rfl (lv_at hl 3 rfl) ?_
          refine mm_ald hcf hE hM 3 rfl (by decide) ((bstF x k i_3).toNatClampNeg) ((bstF_ok hk i_3 (by omega)).j c_25) ((bstF_ok hk i_3 (by omega)).e c_25) dX4_flow_53 ?_
          refine lv_iadd hx hb dX4_flow_54 ?_
          refine lv_icmp_ge (tgt := 62) hx hb dX4_flow_55 (by decide) (fun c_26 => ?_) (fun c_26 => ?_)
          · refine lv_iconst (v := 0) hx hb dX4_flow_62 (by decide) ?_
            exact J_29 _ (by first | rfl | (rw [if_neg c_24, if_neg c_25, if_pos c_26]) | (simp only [c_24, c_25, c_26, if_true, if_false, ite_true, ite_false, not_false_eq_true, reduceIte]))
          · refine lv_iconst (v := 1) hx hb dX4_flow_58 (by decide) ?_
            refine lv_goto (tgt := 63) hx hb dX4_flow_59 (by decide) ?_
            exact J_29 _ (by first | rfl | (rw [if_neg c_24, if_neg c_25, if_neg c_26]) | (simp only [c_24, c_25, c_26, if_true, if_false, ite_true, ite_false, not_false_eq_true, reduceIte]))
  exact L_3 (4) 0 (by omega) H locs ls hM hS (lv_sub hl [2, 3, 1, 0] rfl)

abbrev rm_X4_crack : Room := { frames := 1, cells := 0, slots := 0, locals := 22 }
set_option maxHeartbeats 400000 in
theorem k_X4_crack (l : Launch) (g : GG) (A : Nat → Prop) (ad : Nat → Nat → Nat) (x : St) : Met l yX4_crack (ws_ yX4_crack cX4_crack 3 none) rm_X4_crack (va_Pc [.ref (ad 30 0)] (mPre g A (mwM g ad x))) (pQv g A (mwM g ad (craF x))) 0 0 A := by
  refine m_start RX4 rfl (by decide) (Nat.le_of_ble_eq_true rfl) ?_
  intro p e s m args below meth c hcf hr hlk hnm hE hA H locs hM hS ls hl
  have hx := hcf.1
  have hb := hcf.2.1
  have hml := hcf.2.2.1
  have hown := hcf.2.2.2.1
  have hts := hcf.2.2.2.2
  have hl : lv_has ls 3 [(0, .ref (ad 30 0))] := hl
  generalize hQ : MQ below (pQv g A (mwM g ad (craF x))) args s 0 0 A = Q
  refine lv_iconst (v := 0) hx hb dX4_crack_0 (by decide) ?_
  refine lv_istore_n (lv' := [(1, .int 0), (0, .ref (ad 30 0))]) hx hb dX4_crack_1 rfl hl (by decide) rfl (fun ls hl => ?_)
  refine lv_iconst (v := 1) hx hb dX4_crack_2 (by decide) ?_
  refine lv_istore_n (lv' := [(2, .int 1), (1, .int 0), (0, .ref (ad 30 0))]) hx hb dX4_crack_3 rfl hl (by decide) rfl (fun ls hl => ?_)
  have L_3 : ∀ (n i_3 : Nat), i_3 + n = 24 → ∀ (H : Heap) (locs : List Loc) (ls : Array Slot), mW g.1 A (mwM g ad x) H → va_S A s.heap H locs → lv_has ls 3 [(0, .ref (ad 30 0)), (1, .int (nI (cldN x i_3))), (2, .int (nI (i_3 + 1)))] → W p l e rm_X4_crack s m args below meth c H locs 0 0 Q (F0 m 4 ls []) := by
    intro n
    induction n with
    | zero =>
      intro i_3 hi H locs ls hM hS hl 
      have hi : i_3 = 24 := by omega
      subst hi
      have hb9 := cldN_le x 24
      refine lv_iload_n hx hb dX4_crack_4 rfl (lv_at hl 2 rfl) ?_
      refine lv_bipush (v := 25) hx hb dX4_crack_5 (by decide) ?_
      refine lv_icmp_ge (tgt := 43) hx hb dX4_crack_7 (by decide) (fun _ => ?_) (fun c9 => absurd (by decide) c9)
      refine lv_iconst (v := 5) hx hb dX4_crack_43 (by decide) ?_
      refine lv_iload_n hx hb dX4_crack_44 rfl (lv_at hl 1 rfl) ?_
      refine lv_imul hx hb dX4_crack_45 ?_
      refine m_topI (y := nI (5 * cldN x 24)) (pk_mul 5 (cldN x 24)) ?_
      refine lv_iconst (v := 1) hx hb dX4_crack_46 (by decide) ?_
      refine lv_iadd hx hb dX4_crack_47 ?_
      refine m_topI (y := nI ((5 * cldN x 24) + 1)) (nI_add (5 * cldN x 24) 1) ?_
      refine lv_istore_n (lv' := [(2, .int (nI ((5 * cldN x 24) + 1))), (0, .ref (ad 30 0)), (1, .int (nI (cldN x 24)))]) hx hb dX4_crack_48 rfl hl (by decide) rfl (fun ls hl => ?_)
      refine lv_aload_n hx hb dX4_crack_49 rfl (lv_at hl 1 rfl) ?_
      refine lv_iload_n hx hb dX4_crack_50 rfl (lv_at hl 0 rfl) ?_
      refine m_cpi (m_rV (As := [.int (nI ((5 * cldN x 24) + 1))]) (rest := []) hcf (k_X4_degreesOf l g A ad x ((5 * cldN x 24) + 1) (by omega)) (cwV 1 hts (lw_V q1070 q1072 qs19 q41 q1073) rfl rfl rfl (by decide +kernel) ⟨Nat.le_of_ble_eq_true rfl, Nat.le_of_ble_eq_true rfl⟩) hE hA hM hS 30 0 (mwM_o g ad _) (ci := 1) rfl rfl hl.1 rfl (Nat.le_of_ble_eq_true rfl) dX4_crack_51 ⟨Nat.le_of_ble_eq_true rfl, Nat.le_of_ble_eq_true rfl⟩) hS (fun H locs hM hS => ?_)
      refine lv_bipush (v := (-10)) hx hb dX4_crack_54 (by decide) ?_
      refine lv_icmp_le (tgt := 60) hx hb dX4_crack_56 (by decide) (fun c_9 => ?_) (fun c_9 => ?_)
      · refine lv_aload_n hx hb dX4_crack_60 rfl (lv_at hl 1 rfl) ?_
        refine mm_get hcf hE hM 6 (by decide) q942 rfl rfl dX4_crack_61 ?_
        refine lv_iload_n hx hb dX4_crack_64 rfl (lv_at hl 2 rfl) ?_
        refine lv_dup2_11 hx hb dX4_crack_65 rfl rfl ?_
        refine mm_ald hcf hE hM 6 rfl (by decide) (cldN x 24) (by show _ < 25; omega) rfl dX4_crack_66 ?_
        refine lv_iconst (v := 1) hx hb dX4_crack_67 (by decide) ?_
        refine lv_iadd hx hb dX4_crack_68 ?_
        refine mm_ast hcf hE hM hS 6 rfl (by decide) (cldN x 24) (by show _ < 25; omega) rfl dX4_crack_69 (fun x_10 H locs ex_11 hM hS => ?_)
        refine lv_aload_n hx hb dX4_crack_70 rfl (lv_at hl 1 rfl) ?_
        refine mm_get hcf hE hM 3 (by decide) q939 rfl rfl dX4_crack_71 ?_
        refine lv_iload_n hx hb dX4_crack_74 rfl (lv_at hl 2 rfl) ?_
        refine mm_ald hcf hE hM 3 rfl (by decide) (cldN x 24) (by show _ < 25; omega) rfl dX4_crack_75 ?_
        have J_24 : ∀ (H : Heap) (locs : List Loc) (x_22 : St), mW g.1 A (mwM g ad x_22) H → va_S A s.heap H locs → ((if (x_10.1 3 (cldN x 24)) ≤ 0 then x_10 else (if 9 ≤ (x_10.1 9 ((5 * cldN x 24) + 1)) then x_10 else (sI (sI (sI (sI x_10 3 (cldN x 24) ((x_10.1 3 (cldN x 24)) - 1)) 9 ((5 * cldN x 24) + 1) (((sI x_10 3 (cldN x 24) ((x_10.1 3 (cldN x 24)) - 1)).1 9 ((5 * cldN x 24) + 1)) + 1)) 2 (cldN x 24) (((sI (sI x_10 3 (cldN x 24) ((x_10.1 3 (cldN x 24)) - 1)) 9 ((5 * cldN x 24) + 1) (((sI x_10 3 (cldN x 24) ((x_10.1 3 (cldN x 24)) - 1)).1 9 ((5 * cldN x 24) + 1)) + 1)).1 2 (cldN x 24)) + 1)) 10 ((5 * cldN x 24) + 1) (((sI (sI (sI x_10 3 (cldN x 24) ((x_10.1 3 (cldN x 24)) - 1)) 9 ((5 * cldN x 24) + 1) (((sI x_10 3 (cldN x 24) ((x_10.1 3 (cldN x 24)) - 1)).1 9 ((5 * cldN x 24) + 1)) + 1)) 2 (cldN x 24) (((sI (sI x_10 3 (cldN x 24) ((x_10.1 3 (cldN x 24)) - 1)) 9 ((5 * cldN x 24) + 1) (((sI x_10 3 (cldN x 24) ((x_10.1 3 (cldN x 24)) - 1)).1 9 ((5 * cldN x 24) + 1)) + 1)).1 2 (cldN x 24)) + 1)).1 10 ((5 * cldN x 24) + 1)) + 1000)))) = x_22) → W p l e rm_X4_crack s m args below meth c H locs 0 0 Q (F0 m 132 ls []) := by
          intro H locs x_22 hM hS ex_23
          rw [← hQ]
          exact m_vret () hx hb hr hlk (by have hF : x_22 = craF x := (by subst ex_23 ex_11; first | rfl | (unfold craF craW; rfl) | (unfold craF craW; rw [if_pos c_9] <;> rfl) | (unfold craF craW; simp only [c_9, if_true, if_false, ite_true, ite_false, not_false_eq_true, reduceIte] <;> rfl) | (rw [if_pos c_9] <;> rfl)); rw [← hF]; exact hM) hS trivial (by first | decide | omega) (by first | decide | omega) dX4_crack_132
        refine lv_if_le (tgt := 132) hx hb dX4_crack_76 (by decide) (fun c_12 => ?_) (fun c_12 => ?_)
        · skip
          exact J_24 H locs _ hM hS (by first | rfl | (rw [if_pos c_12]) | (simp only [c_12, if_true, if_false, ite_true, ite_false, not_false_eq_true, reduceIte]))
        · refine lv_aload_n hx hb dX4_crack_79 rfl (lv_at hl 1 rfl) ?_
          refine mm_get hcf hE hM 9 (by decide) q945 rfl rfl dX4_crack_80 ?_
          refine lv_iload_n hx hb dX4_crack_83 rfl (lv_at hl 0 rfl) ?_
          refine mm_ald hcf hE hM 9 rfl (by decide) ((5 * cldN x 24) + 1) (by show _ < 125; omega) rfl dX4_crack_84 ?_
          refine lv_bipush (v := 9) hx hb dX4_crack_85 (by decide) ?_
          refine lv_icmp_ge (tgt := 132) hx hb dX4_crack_87 (by decide) (fun c_13 => ?_) (fun c_13 => ?_)
          · skip
            exact J_24 H locs _ hM hS (by first | rfl | (rw [if_neg c_12, if_pos c_13]) | (simp only [c_12, c_13, if_true, if_false, ite_true, ite_false, not_false_eq_true, reduceIte]))
          · refine lv_aload_n hx hb dX4_crack_90 rfl (lv_at hl 1 rfl) ?_
            refine mm_get hcf hE hM 3 (by decide) q939 rfl rfl dX4_crack_91 ?_
            refine lv_iload_n hx hb dX4_crack_94 rfl (lv_at hl 2 rfl) ?_
            refine lv_dup2_11 hx hb dX4_crack_95 rfl rfl ?_
            refine mm_ald hcf hE hM 3 rfl (by decide) (cldN x 24) (by show _ < 25; omega) rfl dX4_crack_96 ?_
            refine lv_iconst (v := 1) hx hb dX4_crack_97 (by decide) ?_
            refine lv_isub hx hb dX4_crack_98 ?_
            refine mm_ast hcf hE hM hS 3 rfl (by decide) (cldN x 24) (by show _ < 25; omega) rfl dX4_crack_99 (fun x_14 H locs ex_15 hM hS => ?_)
            refine lv_aload_n hx hb dX4_crack_100 rfl (lv_at hl 1 rfl) ?_
            refine mm_get hcf hE hM 9 (by decide) q945 rfl rfl dX4_crack_101 ?_
            refine lv_iload_n hx hb dX4_crack_104 rfl (lv_at hl 0 rfl) ?_
            refine lv_dup2_11 hx hb dX4_crack_105 rfl rfl ?_
            refine mm_ald hcf hE hM 9 rfl (by decide) ((5 * cldN x 24) + 1) (by show _ < 125; omega) rfl dX4_crack_106 ?_
            refine lv_iconst (v := 1) hx hb dX4_crack_107 (by decide) ?_
            refine lv_iadd hx hb dX4_crack_108 ?_
            refine mm_ast hcf hE hM hS 9 rfl (by decide) ((5 * cldN x 24) + 1) (by show _ < 125; omega) rfl dX4_crack_109 (fun x_16 H locs ex_17 hM hS => ?_)
            refine lv_aload_n hx hb dX4_crack_110 rfl (lv_at hl 1 rfl) ?_
            refine mm_get hcf hE hM 2 (by decide) q938 rfl rfl dX4_crack_111 ?_
            refine lv_iload_n hx hb dX4_crack_114 rfl (lv_at hl 2 rfl) ?_
            refine lv_dup2_11 hx hb dX4_crack_115 rfl rfl ?_
            refine mm_ald hcf hE hM 2 rfl (by decide) (cldN x 24) (by show _ < 25; omega) rfl dX4_crack_116 ?_
            refine lv_iconst (v := 1) hx hb dX4_crack_117 (by decide) ?_
            refine lv_iadd hx hb dX4_crack_118 ?_
            refine mm_ast hcf hE hM hS 2 rfl (by decide) (cldN x 24) (by show _ < 25; omega) rfl dX4_crack_119 (fun x_18 H locs ex_19 hM hS => ?_)
            refine lv_aload_n hx hb dX4_crack_120 rfl (lv_at hl 1 rfl) ?_
            refine mm_get hcf hE hM 10 (by decide) q946 rfl rfl dX4_crack_121 ?_
            refine lv_iload_n hx hb dX4_crack_124 rfl (lv_at hl 0 rfl) ?_
            refine lv_dup2_11 hx hb dX4_crack_125 rfl rfl ?_
            refine mm_ald hcf hE hM 10 rfl (by decide) ((5 * cldN x 24) + 1) (by show _ < 125; omega) rfl dX4_crack_126 ?_
            refine lv_sipush (v := 1000) hx hb dX4_crack_127 (by decide) ?_
            refine lv_iadd hx hb dX4_crack_130 ?_
            refine mm_ast hcf hE hM hS 10 rfl (by decide) ((5 * cldN x 24) + 1) (by show _ < 125; omega) rfl dX4_crack_131 (fun x_20 H locs ex_21 hM hS => ?_)
            exact J_24 H locs _ hM hS (by subst ex_21; subst ex_19; subst ex_17; subst ex_15; first | rfl | (rw [if_neg c_12, if_neg c_13]) | (simp only [c_12, c_13, if_true, if_false, ite_true, ite_false, not_false_eq_true, reduceIte]))
      · rw [← hQ]
        exact m_vret () hx hb hr hlk (by have hF : x = craF x := (by first | rfl | (unfold craF craW; rfl) | (unfold craF craW; rw [if_neg c_9] <;> rfl) | (unfold craF craW; simp only [c_9, if_true, if_false, ite_true, ite_false, not_false_eq_true, reduceIte] <;> rfl) | (rw [if_neg c_9] <;> rfl)); rw [← hF]; exact hM) hS trivial (by first | decide | omega) (by first | decide | omega) dX4_crack_59
    | succ n ih =>
      intro i_3 hi H locs ls hM hS hl 
      have hlt_i_3 : i_3 < 24 := by omega
      have hb9 := cldN_le x i_3
      refine lv_iload_n hx hb dX4_crack_4 rfl (lv_at hl 2 rfl) ?_
      refine lv_bipush (v := 25) hx hb dX4_crack_5 (by decide) ?_
      refine lv_icmp_ge (tgt := 43) hx hb dX4_crack_7 (by decide) (fun c9 => absurd c9 (nI_ge (b := 25) (by omega) (by decide))) (fun _ => ?_)
      refine lv_aload_n hx hb dX4_crack_10 rfl (lv_at hl 0 rfl) ?_
      refine lv_iconst (v := 5) hx hb dX4_crack_11 (by decide) ?_
      refine lv_iload_n hx hb dX4_crack_12 rfl (lv_at hl 2 rfl) ?_
      refine lv_imul hx hb dX4_crack_13 ?_
      refine m_topI (y := nI (5 * (i_3 + 1))) (pk_mul 5 (i_3 + 1)) ?_
      refine lv_iconst (v := 1) hx hb dX4_crack_14 (by decide) ?_
      refine lv_iadd hx hb dX4_crack_15 ?_
      refine m_topI (y := nI ((5 * (i_3 + 1)) + 1)) (nI_add (5 * (i_3 + 1)) 1) ?_
      refine m_cpi (m_rV (As := [.int (nI ((5 * (i_3 + 1)) + 1))]) (rest := []) hcf (k_X4_degreesOf l g A ad x ((5 * (i_3 + 1)) + 1) (by omega)) (cwV 1 hts (lw_V q1070 q1072 qs19 q41 q1073) rfl rfl rfl (by decide +kernel) ⟨Nat.le_of_ble_eq_true rfl, Nat.le_of_ble_eq_true rfl⟩) hE hA hM hS 30 0 (mwM_o g ad _) (ci := 1) rfl rfl hl.1 rfl (Nat.le_of_ble_eq_true rfl) dX4_crack_16 ⟨Nat.le_of_ble_eq_true rfl, Nat.le_of_ble_eq_true rfl⟩) hS (fun H locs hM hS => ?_)
      refine lv_aload_n hx hb dX4_crack_19 rfl (lv_at hl 0 rfl) ?_
      refine lv_iconst (v := 5) hx hb dX4_crack_20 (by decide) ?_
      refine lv_iload_n hx hb dX4_crack_21 rfl (lv_at hl 1 rfl) ?_
      refine lv_imul hx hb dX4_crack_22 ?_
      refine m_topI (y := nI (5 * cldN x i_3)) (pk_mul 5 (cldN x i_3)) ?_
      refine lv_iconst (v := 1) hx hb dX4_crack_23 (by decide) ?_
      refine lv_iadd hx hb dX4_crack_24 ?_
      refine m_topI (y := nI ((5 * cldN x i_3) + 1)) (nI_add (5 * cldN x i_3) 1) ?_
      refine m_cpi (m_rV (As := [.int (nI ((5 * cldN x i_3) + 1))]) (rest := [.int (degF x ((5 * (i_3 + 1)) + 1))]) hcf (k_X4_degreesOf l g A ad x ((5 * cldN x i_3) + 1) (by omega)) (cwV 1 hts (lw_V q1070 q1072 qs19 q41 q1073) rfl rfl rfl (by decide +kernel) ⟨Nat.le_of_ble_eq_true rfl, Nat.le_of_ble_eq_true rfl⟩) hE hA hM hS 30 0 (mwM_o g ad _) (ci := 1) rfl rfl hl.1 rfl (Nat.le_of_ble_eq_true rfl) dX4_crack_25 ⟨Nat.le_of_ble_eq_true rfl, Nat.le_of_ble_eq_true rfl⟩) hS (fun H locs hM hS => ?_)
      have J_35 : ∀ (j_33 : Nat), ((if (degF x ((5 * cldN x i_3) + 1)) ≤ (degF x ((5 * (i_3 + 1)) + 1)) then (cldN x i_3) else (i_3 + 1)) = j_33) → W p l e rm_X4_crack s m args below meth c H locs 0 0 Q (F0 m 36 ls [.int (nI j_33)]) := by
        intro j_33 ej_34
        refine lv_istore_n (lv' := [(1, .int (nI j_33)), (0, .ref (ad 30 0)), (2, .int (nI (i_3 + 1)))]) hx hb dX4_crack_36 rfl hl (by decide) rfl (fun ls hl => ?_)
        refine lv_iinc (v := nI ((i_3 + 1) + 1)) (lv' := [(2, .int (nI ((i_3 + 1) + 1))), (1, .int (nI j_33)), (0, .ref (ad 30 0))]) hx hb dX4_crack_37 hl (k := 2) rfl (nI_add (i_3 + 1) 1) (by decide) rfl (fun ls hl => ?_)
        refine lv_goto (tgt := 4) hx hb dX4_crack_40 (by decide) ?_
        exact ih (i_3 + 1) (by omega) H locs ls hM hS (lv_sub hl [2, 1, 0] (by subst ej_34; rfl))
      refine lv_icmp_ge (tgt := 35) hx hb dX4_crack_28 (by decide) (fun c_32 => ?_) (fun c_32 => ?_)
      · refine lv_iload_n hx hb dX4_crack_35 rfl (lv_at hl 1 rfl) ?_
        exact J_35 _ (by first | rfl | (rw [if_pos c_32]) | (simp only [c_32, if_true, if_false, ite_true, ite_false, not_false_eq_true, reduceIte]))
      · refine lv_iload_n hx hb dX4_crack_31 rfl (lv_at hl 2 rfl) ?_
        refine lv_goto (tgt := 36) hx hb dX4_crack_32 (by decide) ?_
        exact J_35 _ (by first | rfl | (rw [if_neg c_32]) | (simp only [c_32, if_true, if_false, ite_true, ite_false, not_false_eq_true, reduceIte]))
  exact L_3 (24) 0 (by omega) H locs ls hM hS (lv_sub hl [2, 1, 0] rfl)

abbrev rm_X4_wake : Room := { frames := 1, cells := 0, slots := 0, locals := 22 }
set_option maxHeartbeats 400000 in
theorem k_X4_wake (l : Launch) (g : GG) (A : Nat → Prop) (ad : Nat → Nat → Nat) (x : St) (k : Nat) (hk : k < 25) (air : Int32) : Met l yX4_wake (ws_ yX4_wake cX4_wake 6 none) rm_X4_wake (va_Pc [.ref (ad 30 0), .int (nI k), .int air] (mPre g A (mwM g ad x))) (pQv g A (mwM g ad (wakF x k air))) 0 0 A := by
  refine m_start RX4 rfl (by decide) (Nat.le_of_ble_eq_true rfl) ?_
  intro p e s m args below meth c hcf hr hlk hnm hE hA H locs hM hS ls hl
  have hx := hcf.1
  have hb := hcf.2.1
  have hml := hcf.2.2.1
  have hown := hcf.2.2.2.1
  have hts := hcf.2.2.2.2
  have hl : lv_has ls 6 [(0, .ref (ad 30 0)), (1, .int (nI k)), (2, .int air)] := hl
  generalize hQ : MQ below (pQv g A (mwM g ad (wakF x k air))) args s 0 0 A = Q
  refine lv_iconst (v := 5) hx hb dX4_wake_0 (by decide) ?_
  refine lv_iload_n hx hb dX4_wake_1 rfl (lv_at hl 1 rfl) ?_
  refine lv_imul hx hb dX4_wake_2 ?_
  refine m_topI (y := nI (5 * k)) (pk_mul 5 k) ?_
  refine lv_istore_n (lv' := [(3, .int (nI (5 * k))), (0, .ref (ad 30 0)), (1, .int (nI k)), (2, .int air)]) hx hb dX4_wake_3 rfl hl (by decide) rfl (fun ls hl => ?_)
  have L_2 : ∀ (n i_2 : Nat), i_2 + n = 5 → ∀ (H : Heap) (locs : List Loc) (ls : Array Slot), mW g.1 A (mwM g ad (wakM x k i_2)) H → va_S A s.heap H locs → lv_has ls 6 [(0, .ref (ad 30 0)), (1, .int (nI k)), (2, .int air), (3, .int (nI (5 * k + i_2)))] → W p l e rm_X4_wake s m args below meth c H locs 0 0 Q (F0 m 4 ls []) := by
    intro n
    induction n with
    | zero =>
      intro i_2 hi H locs ls hM hS hl 
      have hi : i_2 = 5 := by omega
      subst hi
      obtain ⟨x_4, ex_5⟩ : ∃ z : St, wakM x k 5 = z := ⟨_, rfl⟩
      rw [ex_5] at hM
      refine lv_iload_n hx hb dX4_wake_4 rfl (lv_at hl 3 rfl) ?_
      refine lv_iconst (v := 5) hx hb dX4_wake_5 (by decide) ?_
      refine lv_iload_n hx hb dX4_wake_6 rfl (lv_at hl 1 rfl) ?_
      refine lv_imul hx hb dX4_wake_7 ?_
      refine m_topI (y := nI (5 * k)) (pk_mul 5 k) ?_
      refine lv_iconst (v := 5) hx hb dX4_wake_8 (by decide) ?_
      refine lv_iadd hx hb dX4_wake_9 ?_
      refine m_topI (y := nI ((5 * k) + 5)) (nI_add (5 * k) 5) ?_
      refine lv_icmp_ge (tgt := 121) hx hb dX4_wake_10 (by decide) (fun _ => ?_) (fun c9 => absurd (nI_le (Nat.le_refl _) (by omega)) c9)
      refine lv_iload_n hx hb dX4_wake_121 rfl (lv_at hl 2 rfl) ?_
      have J_17 : ∀ (H : Heap) (locs : List Loc) (x_15 : St), mW g.1 A (mwM g ad x_15) H → va_S A s.heap H locs → ((if air ≤ 0 then x_4 else (if (lakF x_4 k) = 0 then (sI (sL x_4 30 ((x_4.2 30) - ((x_4.1 5 k).toInt64))) 11 (5 * k) (((sL x_4 30 ((x_4.2 30) - ((x_4.1 5 k).toInt64))).1 11 (5 * k)) + ((sL x_4 30 ((x_4.2 30) - ((x_4.1 5 k).toInt64))).1 5 k))) else x_4)) = x_15) → W p l e rm_X4_wake s m args below meth c H locs 0 0 Q (F0 m 166 ls []) := by
        intro H locs x_15 hM hS ex_16
        rw [← hQ]
        exact m_vret () hx hb hr hlk (by have hF : x_15 = wakF x k air := (by subst ex_16 ex_5; first | rfl | (unfold wakF; rfl)); rw [← hF]; exact hM) hS trivial (by first | decide | omega) (by first | decide | omega) dX4_wake_166
      refine lv_if_le (tgt := 166) hx hb dX4_wake_122 (by decide) (fun c_6 => ?_) (fun c_6 => ?_)
      · skip
        exact J_17 H locs _ hM hS (by first | rfl | (rw [if_pos c_6]) | (simp only [c_6, if_true, if_false, ite_true, ite_false, not_false_eq_true, reduceIte]))
      · refine lv_aload_n hx hb dX4_wake_125 rfl (lv_at hl 0 rfl) ?_
        refine lv_iload_n hx hb dX4_wake_126 rfl (lv_at hl 1 rfl) ?_
        refine m_cpi (m_rV (As := [.int (nI k)]) (rest := []) hcf (k_X4_isLake l g A ad x_4 k (by omega)) (cwV 1 hts (lw_V q1074 q1076 qs20 q41 q1077) rfl rfl rfl (by decide +kernel) ⟨Nat.le_of_ble_eq_true rfl, Nat.le_of_ble_eq_true rfl⟩) hE hA hM hS 30 0 (mwM_o g ad _) (ci := 1) rfl rfl hl.1 rfl (Nat.le_of_ble_eq_true rfl) dX4_wake_127 ⟨Nat.le_of_ble_eq_true rfl, Nat.le_of_ble_eq_true rfl⟩) hS (fun H locs hM hS => ?_)
        refine lv_if_ne (tgt := 166) hx hb dX4_wake_130 (by decide) (fun c_10 => ?_) (fun c_10 => ?_)
        · skip
          exact J_17 H locs _ hM hS (by first | rfl | (rw [if_neg c_6, if_neg c_10]) | (simp only [c_6, c_10, if_true, if_false, ite_true, ite_false, not_false_eq_true, reduceIte]))
        · refine lv_aload_n hx hb dX4_wake_133 rfl (lv_at hl 0 rfl) ?_
          refine lv_dup hx hb dX4_wake_134 rfl ?_
          refine mm_get hcf hE hM 30 (by decide) q966 rfl rfl dX4_wake_135 ?_
          refine lv_aload_n hx hb dX4_wake_138 rfl (lv_at hl 0 rfl) ?_
          refine mm_get hcf hE hM 5 (by decide) q941 rfl rfl dX4_wake_139 ?_
          refine lv_iload_n hx hb dX4_wake_142 rfl (lv_at hl 1 rfl) ?_
          refine mm_ald hcf hE hM 5 rfl (by decide) k (by show _ < 25; omega) rfl dX4_wake_143 ?_
          refine lv_i2l hx hb dX4_wake_144 rfl ?_
          refine lv_lsub hx hb dX4_wake_145 ?_
          refine mm_putl hcf hE hM hS 30 (by decide) q966 rfl rfl rfl ((x_4.2 30) - ((x_4.1 5 k).toInt64)) rfl dX4_wake_146 (fun x_11 H locs ex_12 hM hS => ?_)
          refine lv_aload_n hx hb dX4_wake_149 rfl (lv_at hl 0 rfl) ?_
          refine mm_get hcf hE hM 11 (by decide) q947 rfl rfl dX4_wake_150 ?_
          refine lv_iconst (v := 5) hx hb dX4_wake_153 (by decide) ?_
          refine lv_iload_n hx hb dX4_wake_154 rfl (lv_at hl 1 rfl) ?_
          refine lv_imul hx hb dX4_wake_155 ?_
          refine m_topI (y := nI (5 * k)) (pk_mul 5 k) ?_
          refine lv_dup2_11 hx hb dX4_wake_156 rfl rfl ?_
          refine mm_ald hcf hE hM 11 rfl (by decide) (5 * k) (by show _ < 125; omega) rfl dX4_wake_157 ?_
          refine lv_aload_n hx hb dX4_wake_158 rfl (lv_at hl 0 rfl) ?_
          refine mm_get hcf hE hM 5 (by decide) q941 rfl rfl dX4_wake_159 ?_
          refine lv_iload_n hx hb dX4_wake_162 rfl (lv_at hl 1 rfl) ?_
          refine mm_ald hcf hE hM 5 rfl (by decide) k (by show _ < 25; omega) rfl dX4_wake_163 ?_
          refine lv_iadd hx hb dX4_wake_164 ?_
          refine mm_ast hcf hE hM hS 11 rfl (by decide) (5 * k) (by show _ < 125; omega) rfl dX4_wake_165 (fun x_13 H locs ex_14 hM hS => ?_)
          exact J_17 H locs _ hM hS (by subst ex_14; subst ex_12; first | rfl | (rw [if_neg c_6, if_pos c_10]) | (simp only [c_6, c_10, if_true, if_false, ite_true, ite_false, not_false_eq_true, reduceIte]))
    | succ n ih =>
      intro i_2 hi H locs ls hM hS hl 
      have hlt_i_2 : i_2 < 5 := by omega
      obtain ⟨x_19, ex_20⟩ : ∃ z : St, wakM x k i_2 = z := ⟨_, rfl⟩
      rw [ex_20] at hM
      refine lv_iload_n hx hb dX4_wake_4 rfl (lv_at hl 3 rfl) ?_
      refine lv_iconst (v := 5) hx hb dX4_wake_5 (by decide) ?_
      refine lv_iload_n hx hb dX4_wake_6 rfl (lv_at hl 1 rfl) ?_
      refine lv_imul hx hb dX4_wake_7 ?_
      refine m_topI (y := nI (5 * k)) (pk_mul 5 k) ?_
      refine lv_iconst (v := 5) hx hb dX4_wake_8 (by decide) ?_
      refine lv_iadd hx hb dX4_wake_9 ?_
      refine m_topI (y := nI ((5 * k) + 5)) (nI_add (5 * k) 5) ?_
      refine lv_icmp_ge (tgt := 121) hx hb dX4_wake_10 (by decide) (fun c9 => absurd c9 (nI_ge (by omega) (by omega))) (fun _ => ?_)
      refine lv_aload_n hx hb dX4_wake_13 rfl (lv_at hl 0 rfl) ?_
      refine lv_iload_n hx hb dX4_wake_14 rfl (lv_at hl 3 rfl) ?_
      refine m_cpi (m_rV (As := [.int (nI (5 * k + i_2))]) (rest := []) hcf (k_X4_degreesOf l g A ad x_19 (5 * k + i_2) (by omega)) (cwV 1 hts (lw_V q1070 q1072 qs19 q41 q1073) rfl rfl rfl (by decide +kernel) ⟨Nat.le_of_ble_eq_true rfl, Nat.le_of_ble_eq_true rfl⟩) hE hA hM hS 30 0 (mwM_o g ad _) (ci := 1) rfl rfl hl.1 rfl (Nat.le_of_ble_eq_true rfl) dX4_wake_15 ⟨Nat.le_of_ble_eq_true rfl, Nat.le_of_ble_eq_true rfl⟩) hS (fun H locs hM hS => ?_)
      refine lv_istore (lv' := [(4, .int (degF x_19 (5 * k + i_2))), (0, .ref (ad 30 0)), (1, .int (nI k)), (2, .int air), (3, .int (nI (5 * k + i_2)))]) hx hb dX4_wake_18 hl (by decide) rfl (fun ls hl => ?_)
      refine lv_iload hx hb dX4_wake_20 (lv_at hl 0 rfl) ?_
      have J_54 : ∀ (H : Heap) (locs : List Loc) (ls : Array Slot) (x_51 : St), mW g.1 A (mwM g ad x_51) H → va_S A s.heap H locs → lv_has ls 6 [(0, .ref (ad 30 0)), (1, .int (nI k)), (2, .int air), (3, .int (nI (5 * k + i_2))), (4, .int (degF x_19 (5 * k + i_2)))] → ((if (degF x_19 (5 * k + i_2)) ≤ 0 then x_19 else (sL (sL (sI x_19 11 (5 * k + i_2) ((x_19.1 11 (5 * k + i_2)) - (lesF (((((degF x_19 (5 * k + i_2)).toInt64) * ((x_19.1 11 (5 * k + i_2)).toInt64)) / 1000).toInt32) (x_19.1 11 (5 * k + i_2))))) 31 (((sI x_19 11 (5 * k + i_2) ((x_19.1 11 (5 * k + i_2)) - (lesF (((((degF x_19 (5 * k + i_2)).toInt64) * ((x_19.1 11 (5 * k + i_2)).toInt64)) / 1000).toInt32) (x_19.1 11 (5 * k + i_2))))).2 31) + (if (lakF (sI x_19 11 (5 * k + i_2) ((x_19.1 11 (5 * k + i_2)) - (lesF (((((degF x_19 (5 * k + i_2)).toInt64) * ((x_19.1 11 (5 * k + i_2)).toInt64)) / 1000).toInt32) (x_19.1 11 (5 * k + i_2))))) k) = 0 then 0 else ((lesF (((((degF x_19 (5 * k + i_2)).toInt64) * ((x_19.1 11 (5 * k + i_2)).toInt64)) / 1000).toInt32) (x_19.1 11 (5 * k + i_2))).toInt64)))) 30 (((sL (sI x_19 11 (5 * k + i_2) ((x_19.1 11 (5 * k + i_2)) - (lesF (((((degF x_19 (5 * k + i_2)).toInt64) * ((x_19.1 11 (5 * k + i_2)).toInt64)) / 1000).toInt32) (x_19.1 11 (5 * k + i_2))))) 31 (((sI x_19 11 (5 * k + i_2) ((x_19.1 11 (5 * k + i_2)) - (lesF (((((degF x_19 (5 * k + i_2)).toInt64) * ((x_19.1 11 (5 * k + i_2)).toInt64)) / 1000).toInt32) (x_19.1 11 (5 * k + i_2))))).2 31) + (if (lakF (sI x_19 11 (5 * k + i_2) ((x_19.1 11 (5 * k + i_2)) - (lesF (((((degF x_19 (5 * k + i_2)).toInt64) * ((x_19.1 11 (5 * k + i_2)).toInt64)) / 1000).toInt32) (x_19.1 11 (5 * k + i_2))))) k) = 0 then 0 else ((lesF (((((degF x_19 (5 * k + i_2)).toInt64) * ((x_19.1 11 (5 * k + i_2)).toInt64)) / 1000).toInt32) (x_19.1 11 (5 * k + i_2))).toInt64)))).2 30) + (if (lakF (sL (sI x_19 11 (5 * k + i_2) ((x_19.1 11 (5 * k + i_2)) - (lesF (((((degF x_19 (5 * k + i_2)).toInt64) * ((x_19.1 11 (5 * k + i_2)).toInt64)) / 1000).toInt32) (x_19.1 11 (5 * k + i_2))))) 31 (((sI x_19 11 (5 * k + i_2) ((x_19.1 11 (5 * k + i_2)) - (lesF (((((degF x_19 (5 * k + i_2)).toInt64) * ((x_19.1 11 (5 * k + i_2)).toInt64)) / 1000).toInt32) (x_19.1 11 (5 * k + i_2))))).2 31) + (if (lakF (sI x_19 11 (5 * k + i_2) ((x_19.1 11 (5 * k + i_2)) - (lesF (((((degF x_19 (5 * k + i_2)).toInt64) * ((x_19.1 11 (5 * k + i_2)).toInt64)) / 1000).toInt32) (x_19.1 11 (5 * k + i_2))))) k) = 0 then 0 else ((lesF (((((degF x_19 (5 * k + i_2)).toInt64) * ((x_19.1 11 (5 * k + i_2)).toInt64)) / 1000).toInt32) (x_19.1 11 (5 * k + i_2))).toInt64)))) k) = 0 then ((lesF (((((degF x_19 (5 * k + i_2)).toInt64) * ((x_19.1 11 (5 * k + i_2)).toInt64)) / 1000).toInt32) (x_19.1 11 (5 * k + i_2))).toInt64) else 0)))) = x_51) → W p l e rm_X4_wake s m args below meth c H locs 0 0 Q (F0 m 115 ls []) := by
        intro H locs ls x_51 hM hS hl ex_52
        refine lv_iinc (v := nI ((5 * k + i_2) + 1)) (lv' := [(3, .int (nI ((5 * k + i_2) + 1))), (0, .ref (ad 30 0)), (1, .int (nI k)), (2, .int air), (4, .int (degF x_19 (5 * k + i_2)))]) hx hb dX4_wake_115 hl (k := 3) rfl (nI_add (5 * k + i_2) 1) (by decide) rfl (fun ls hl => ?_)
        refine lv_goto (tgt := 4) hx hb dX4_wake_118 (by decide) ?_
        exact ih (i_2 + 1) (by omega) H locs ls (by have hF : x_51 = wakM x k (i_2 + 1) := (by subst ex_52 ex_20; rfl); rw [← hF]; exact hM) hS (lv_sub hl [1, 2, 3, 0] (by subst ex_52 ex_20; rfl))
      refine lv_if_le (tgt := 115) hx hb dX4_wake_22 (by decide) (fun c_25 => ?_) (fun c_25 => ?_)
      · skip
        exact J_54 H locs ls _ hM hS (lv_sub hl [1, 2, 3, 4, 0] rfl) (by first | rfl | (rw [if_pos c_25]) | (simp only [c_25, if_true, if_false, ite_true, ite_false, not_false_eq_true, reduceIte]))
      · refine lv_iload hx hb dX4_wake_25 (lv_at hl 0 rfl) ?_
        refine lv_i2l hx hb dX4_wake_27 rfl ?_
        refine lv_aload_n hx hb dX4_wake_28 rfl (lv_at hl 1 rfl) ?_
        refine mm_get hcf hE hM 11 (by decide) q947 rfl rfl dX4_wake_29 ?_
        refine lv_iload_n hx hb dX4_wake_32 rfl (lv_at hl 4 rfl) ?_
        refine mm_ald hcf hE hM 11 rfl (by decide) (5 * k + i_2) (by show _ < 125; omega) rfl dX4_wake_33 ?_
        refine lv_i2l hx hb dX4_wake_34 rfl ?_
        refine lv_lmul hx hb dX4_wake_35 ?_
        refine lv_ldc2 hx hb hown (hts _ q1108) dX4_wake_36 ?_
        refine lv_ldiv hx hb dX4_wake_39 (by decide) ?_
        refine lv_l2i hx hb dX4_wake_40 rfl ?_
        refine lv_istore (lv' := [(5, .int (((((degF x_19 (5 * k + i_2)).toInt64) * ((x_19.1 11 (5 * k + i_2)).toInt64)) / 1000).toInt32)), (4, .int (degF x_19 (5 * k + i_2))), (0, .ref (ad 30 0)), (1, .int (nI k)), (2, .int air), (3, .int (nI (5 * k + i_2)))]) hx hb dX4_wake_41 hl (by decide) rfl (fun ls hl => ?_)
        refine lv_iload hx hb dX4_wake_43 (lv_at hl 0 rfl) ?_
        refine lv_aload_n hx hb dX4_wake_45 rfl (lv_at hl 2 rfl) ?_
        refine mm_get hcf hE hM 11 (by decide) q947 rfl rfl dX4_wake_46 ?_
        refine lv_iload_n hx hb dX4_wake_49 rfl (lv_at hl 5 rfl) ?_
        refine mm_ald hcf hE hM 11 rfl (by decide) (5 * k + i_2) (by show _ < 125; omega) rfl dX4_wake_50 ?_
        refine m_cpi (m_rS (As := [.int (((((degF x_19 (5 * k + i_2)).toInt64) * ((x_19.1 11 (5 * k + i_2)).toInt64)) / 1000).toInt32), .int (x_19.1 11 (5 * k + i_2))]) (rest := []) hcf (k_X4_lesser l g A (mwM g ad x_19) (((((degF x_19 (5 * k + i_2)).toInt64) * ((x_19.1 11 (5 * k + i_2)).toInt64)) / 1000).toInt32) (x_19.1 11 (5 * k + i_2))) (va_cwS 2 hts (lw_S q1063 q1064 q41 q1065) rfl rfl rfl (by decide +kernel) ⟨Nat.le_of_ble_eq_true rfl, Nat.le_of_ble_eq_true rfl⟩) hE hA hM hS rfl hl.1 rfl (Nat.le_of_ble_eq_true rfl) dX4_wake_51 ⟨Nat.le_of_ble_eq_true rfl, Nat.le_of_ble_eq_true rfl⟩) hS (fun H locs hM hS => ?_)
        refine lv_istore (lv' := [(5, .int (lesF (((((degF x_19 (5 * k + i_2)).toInt64) * ((x_19.1 11 (5 * k + i_2)).toInt64)) / 1000).toInt32) (x_19.1 11 (5 * k + i_2)))), (4, .int (degF x_19 (5 * k + i_2))), (0, .ref (ad 30 0)), (1, .int (nI k)), (2, .int air), (3, .int (nI (5 * k + i_2)))]) hx hb dX4_wake_54 hl (by decide) rfl (fun ls hl => ?_)
        refine lv_aload_n hx hb dX4_wake_56 rfl (lv_at hl 2 rfl) ?_
        refine mm_get hcf hE hM 11 (by decide) q947 rfl rfl dX4_wake_57 ?_
        refine lv_iload_n hx hb dX4_wake_60 rfl (lv_at hl 5 rfl) ?_
        refine lv_dup2_11 hx hb dX4_wake_61 rfl rfl ?_
        refine mm_ald hcf hE hM 11 rfl (by decide) (5 * k + i_2) (by show _ < 125; omega) rfl dX4_wake_62 ?_
        refine lv_iload hx hb dX4_wake_63 (lv_at hl 0 rfl) ?_
        refine lv_isub hx hb dX4_wake_65 ?_
        refine mm_ast hcf hE hM hS 11 rfl (by decide) (5 * k + i_2) (by show _ < 125; omega) rfl dX4_wake_66 (fun x_31 H locs ex_32 hM hS => ?_)
        refine lv_aload_n hx hb dX4_wake_67 rfl (lv_at hl 2 rfl) ?_
        refine lv_dup hx hb dX4_wake_68 rfl ?_
        refine mm_get hcf hE hM 31 (by decide) q967 rfl rfl dX4_wake_69 ?_
        refine lv_aload_n hx hb dX4_wake_72 rfl (lv_at hl 2 rfl) ?_
        refine lv_iload_n hx hb dX4_wake_73 rfl (lv_at hl 3 rfl) ?_
        refine m_cpi (m_rV (As := [.int (nI k)]) (rest := [.long (x_31.2 31), .ref (ad 30 0)]) hcf (k_X4_isLake l g A ad x_31 k (by omega)) (cwV 1 hts (lw_V q1074 q1076 qs20 q41 q1077) rfl rfl rfl (by decide +kernel) ⟨Nat.le_of_ble_eq_true rfl, Nat.le_of_ble_eq_true rfl⟩) hE hA hM hS 30 0 (mwM_o g ad _) (ci := 1) rfl rfl hl.1 rfl (Nat.le_of_ble_eq_true rfl) dX4_wake_74 ⟨Nat.le_of_ble_eq_true rfl, Nat.le_of_ble_eq_true rfl⟩) hS (fun H locs hM hS => ?_)
        have J_39 : ∀ (v_37 : Int64), ((if (lakF x_31 k) = 0 then 0 else ((lesF (((((degF x_19 (5 * k + i_2)).toInt64) * ((x_19.1 11 (5 * k + i_2)).toInt64)) / 1000).toInt32) (x_19.1 11 (5 * k + i_2))).toInt64)) = v_37) → W p l e rm_X4_wake s m args below meth c H locs 0 0 Q (F0 m 87 ls [.long v_37, .long (x_31.2 31), .ref (ad 30 0)]) := by
          intro v_37 ev_38
          refine lv_ladd hx hb dX4_wake_87 ?_
          refine mm_putl hcf hE hM hS 31 (by decide) q967 rfl rfl rfl ((x_31.2 31) + v_37) rfl dX4_wake_88 (fun x_40 H locs ex_41 hM hS => ?_)
          refine lv_aload_n hx hb dX4_wake_91 rfl (lv_at hl 2 rfl) ?_
          refine lv_dup hx hb dX4_wake_92 rfl ?_
          refine mm_get hcf hE hM 30 (by decide) q966 rfl rfl dX4_wake_93 ?_
          refine lv_aload_n hx hb dX4_wake_96 rfl (lv_at hl 2 rfl) ?_
          refine lv_iload_n hx hb dX4_wake_97 rfl (lv_at hl 3 rfl) ?_
          refine m_cpi (m_rV (As := [.int (nI k)]) (rest := [.long (x_40.2 30), .ref (ad 30 0)]) hcf (k_X4_isLake l g A ad x_40 k (by omega)) (cwV 1 hts (lw_V q1074 q1076 qs20 q41 q1077) rfl rfl rfl (by decide +kernel) ⟨Nat.le_of_ble_eq_true rfl, Nat.le_of_ble_eq_true rfl⟩) hE hA hM hS 30 0 (mwM_o g ad _) (ci := 1) rfl rfl hl.1 rfl (Nat.le_of_ble_eq_true rfl) dX4_wake_98 ⟨Nat.le_of_ble_eq_true rfl, Nat.le_of_ble_eq_true rfl⟩) hS (fun H locs hM hS => ?_)
          have J_48 : ∀ (v_46 : Int64), ((if (lakF x_40 k) = 0 then ((lesF (((((degF x_19 (5 * k + i_2)).toInt64) * ((x_19.1 11 (5 * k + i_2)).toInt64)) / 1000).toInt32) (x_19.1 11 (5 * k + i_2))).toInt64) else 0) = v_46) → W p l e rm_X4_wake s m args below meth c H locs 0 0 Q (F0 m 111 ls [.long v_46, .long (x_40.2 30), .ref (ad 30 0)]) := by
            intro v_46 ev_47
            refine lv_ladd hx hb dX4_wake_111 ?_
            refine mm_putl hcf hE hM hS 30 (by decide) q966 rfl rfl rfl ((x_40.2 30) + v_46) rfl dX4_wake_112 (fun x_49 H locs ex_50 hM hS => ?_)
            exact J_54 H locs ls _ hM hS (lv_sub hl [2, 3, 4, 5, 1] rfl) (by subst ex_50; subst ev_47; subst ex_41; subst ev_38; subst ex_32; first | rfl | (rw [if_neg c_25]) | (simp only [c_25, if_true, if_false, ite_true, ite_false, not_false_eq_true, reduceIte]))
          refine lv_if_eq (tgt := 108) hx hb dX4_wake_101 (by decide) (fun c_45 => ?_) (fun c_45 => ?_)
          · refine lv_iload hx hb dX4_wake_108 (lv_at hl 0 rfl) ?_
            refine lv_i2l hx hb dX4_wake_110 rfl ?_
            exact J_48 _ (by first | rfl | (rw [if_pos c_45]) | (simp only [c_45, if_true, if_false, ite_true, ite_false, not_false_eq_true, reduceIte]))
          · refine lv_lconst (v := 0) hx hb dX4_wake_104 (by decide) ?_
            refine lv_goto (tgt := 111) hx hb dX4_wake_105 (by decide) ?_
            exact J_48 _ (by first | rfl | (rw [if_neg c_45]) | (simp only [c_45, if_true, if_false, ite_true, ite_false, not_false_eq_true, reduceIte]))
        refine lv_if_eq (tgt := 86) hx hb dX4_wake_77 (by decide) (fun c_36 => ?_) (fun c_36 => ?_)
        · refine lv_lconst (v := 0) hx hb dX4_wake_86 (by decide) ?_
          exact J_39 _ (by first | rfl | (rw [if_pos c_36]) | (simp only [c_36, if_true, if_false, ite_true, ite_false, not_false_eq_true, reduceIte]))
        · refine lv_iload hx hb dX4_wake_80 (lv_at hl 0 rfl) ?_
          refine lv_i2l hx hb dX4_wake_82 rfl ?_
          refine lv_goto (tgt := 87) hx hb dX4_wake_83 (by decide) ?_
          exact J_39 _ (by first | rfl | (rw [if_neg c_36]) | (simp only [c_36, if_true, if_false, ite_true, ite_false, not_false_eq_true, reduceIte]))
  exact L_2 (5) 0 (by omega) H locs ls hM hS (lv_sub hl [1, 2, 3, 0] rfl)
