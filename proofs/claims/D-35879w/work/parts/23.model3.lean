/-! the reference: a month, months -/
set_option maxRecDepth 100000
def okN (v : Int32) (n : Nat) : Prop := v = nI v.toNatClampNeg ∧ v.toNatClampNeg < n
def nt (x : St) (f k : Nat) : Nat := (x.1 f k).toNatClampNeg
theorem okN_nI {j n : Nat} (h : j < n) (hn : n ≤ 2 ^ 31) : okN (nI j) n := ⟨by rw [nI_clamp (by omega)], by rw [nI_clamp (by omega)]; exact h⟩
def okF (f : Nat) : Bool := f == 1 || f == 4 || f == 5 || f == 13 || f == 14 || f == 15 || f == 18 || f == 19 || f == 20 || f == 22 || f == 24
def okB (f k : Nat) : Bool := ((f == 1 || f == 13 || f == 19 || f == 24) && k == 0) || ((f == 4 || f == 5) && decide (k < 25)) || ((f == 14 || f == 15 || f == 18 || f == 20 || f == 22) && decide (k < 10))
def bnd (f : Nat) : Nat := if f = 1 ∨ f = 18 ∨ f = 22 then 601 else if f = 13 ∨ f = 19 then 11 else if f = 24 then 41 else if f = 4 then 10 else if f = 5 then 4 else if f = 15 then 5 else 25
def okM (x : St) : Prop := ∀ f k, okB f k = true → okN (x.1 f k) (bnd f)
theorem okB_F {f k : Nat} (h : okB f k = true) : okF f = true := by
  unfold okB at h
  unfold okF
  simp only [Bool.or_eq_true, Bool.and_eq_true, beq_iff_eq, decide_eq_true_eq] at h ⊢
  omega
theorem okM.h1 {x : St} (h : okM x) : okN (x.1 1 0) 601 := h 1 0 rfl
theorem okM.h13 {x : St} (h : okM x) : okN (x.1 13 0) 11 := h 13 0 rfl
theorem okM.h19 {x : St} (h : okM x) : okN (x.1 19 0) 11 := h 19 0 rfl
theorem okM.h24 {x : St} (h : okM x) : okN (x.1 24 0) 41 := h 24 0 rfl
theorem okM.h4 {x : St} (h : okM x) {c : Nat} (hc : c < 25) : okN (x.1 4 c) 10 := h 4 c (by simp [okB, hc])
theorem okM.h5 {x : St} (h : okM x) {c : Nat} (hc : c < 25) : okN (x.1 5 c) 4 := h 5 c (by simp [okB, hc])
theorem okM.h14 {x : St} (h : okM x) {c : Nat} (hc : c < 10) : okN (x.1 14 c) 25 := h 14 c (by simp [okB, hc])
theorem okM.h15 {x : St} (h : okM x) {c : Nat} (hc : c < 10) : okN (x.1 15 c) 5 := h 15 c (by simp [okB, hc])
theorem okM.h18 {x : St} (h : okM x) {c : Nat} (hc : c < 10) : okN (x.1 18 c) 601 := h 18 c (by simp [okB, hc])
theorem okM.h20 {x : St} (h : okM x) {c : Nat} (hc : c < 10) : okN (x.1 20 c) 25 := h 20 c (by simp [okB, hc])
theorem okM.h22 {x : St} (h : okM x) {c : Nat} (hc : c < 10) : okN (x.1 22 c) 601 := h 22 c (by simp [okB, hc])
/-- the fields of okM but the snow stay -/
def kp (x y : St) : Prop := ∀ f, okF f = true → f ≠ 4 → y.1 f = x.1 f
/-- all of them -/
def kq (x y : St) : Prop := ∀ f, okF f = true → y.1 f = x.1 f
theorem kp.rf (x : St) : kp x x := fun _ _ _ => rfl
theorem kp.tr {x y z : St} (h : kp x y) (h2 : kp y z) : kp x z := fun f hf h4 => (h2 f hf h4).trans (h f hf h4)
theorem kq.rf (x : St) : kq x x := fun _ _ => rfl
theorem kq.tr {x y z : St} (h : kq x y) (h2 : kq y z) : kq x z := fun f hf => (h2 f hf).trans (h f hf)
theorem kq.p {x y : St} (h : kq x y) : kp x y := fun f hf _ => h f hf
theorem kq.ok {x y : St} (h : kq x y) (ho : okM x) : okM y := fun f k hb => by rw [h f (okB_F hb)]; exact ho f k hb
theorem kq.n {x y : St} (h : kq x y) {f : Nat} (hf : okF f = true) (k : Nat) : nt y f k = nt x f k := by show (y.1 f k).toNatClampNeg = _; rw [h f hf]; rfl
theorem kp.n {x y : St} (h : kp x y) {f : Nat} (hf : okF f = true) (h4 : f ≠ 4) (k : Nat) : nt y f k = nt x f k := by show (y.1 f k).toNatClampNeg = _; rw [h f hf h4]; rfl
theorem kq_sI {x : St} {f k : Nat} {v : Int32} (hf : okF f = false) : kq x (sI x f k v) := fun h hh => sI_ne x f k v (fun e => by rw [e, hf] at hh; cases hh)
theorem kq_sL {x : St} {f : Nat} {v : Int64} : kq x (sL x f v) := fun _ _ => rfl
theorem kq_it {f : St → Nat → St} (h : ∀ y k, kq y (f y k)) (x : St) (n : Nat) : kq x (it f x n) := by
  induction n with
  | zero => exact kq.rf x
  | succ n ih => exact ih.tr (h _ _)
theorem kq_if {c : Prop} [Decidable c] {x a b : St} (ha : kq x a) (hb : kq x b) : kq x (if c then a else b) := by
  split <;> assumption
theorem divOK {x : St} (h : okM x) {c : Nat} (hc : c < 25) : ¬ 2 + x.1 4 c + 2 * x.1 5 c = 0 := by
  obtain ⟨e1, b1⟩ := h.h4 hc
  obtain ⟨e2, b2⟩ := h.h5 hc
  rw [e1, e2]
  have key : ∀ a, a < 10 → ∀ b, b < 4 → ¬ (2 + nI a + 2 * nI b = 0) := by decide +kernel
  exact key _ b1 _ b2
def degL (x : St) : Nat → St := it (fun y k => sI y 12 k (degF y k)) x
def conM (y : St) (k : Nat) : Int32 := 20 * (y.1 12 k - y.1 12 (k + 1))
def conF (y : St) (k : Nat) : St := sI (sI y 10 k (y.1 10 k - conM y k)) 10 (k + 1) ((sI y 10 k (y.1 10 k - conM y k)).1 10 (k + 1) + conM y k)
def conL (y : St) (c : Nat) : Nat → St := it (fun z i => conF z (5 * c + i)) y
def leaF (y : St) (c : Nat) (air : Int32) : Int32 := (if lakF y c = 0 then 60 / (2 + y.1 4 c + 2 * y.1 5 c) else 30) * ((if lakF y c = 0 then air else greF 0 air) - y.1 12 (5 * c))
def het1 (air : Int32) (y : St) (c : Nat) : St := briF (conL (briF y (5 * c) (leaF y c air)) c 4) (5 * c + 4) 10
def hohF (air : Int32) (y : St) (h : Nat) : St := briF y (5 * nt y 14 h) (if y.1 16 h = 0 then 300 else (if 0 ≤ air then 300 else 0))
def hetA (x : St) (air : Int32) : Nat → St := it (het1 air) (degL x 125)
def hetF (x : St) (air : Int32) : St := it (hohF air) (hetA x air 25) (nt x 13 0)
theorem kq_bri (x : St) (k : Nat) (v : Int32) : kq x (briF x k v) := (kq_sI rfl).tr kq_sL
theorem kq_degL (x : St) (n : Nat) : kq x (degL x n) := kq_it (fun _ _ => kq_sI rfl) x n
theorem kq_con (x : St) (k : Nat) : kq x (conF x k) := (kq_sI rfl).tr (kq_sI rfl)
theorem kq_conL (x : St) (c n : Nat) : kq x (conL x c n) := kq_it (fun _ _ => kq_con _ _) x n
theorem kq_het1 (air : Int32) (y : St) (c : Nat) : kq y (het1 air y c) := (kq_bri _ _ _).tr ((kq_conL _ _ _).tr (kq_bri _ _ _))
theorem kq_hetA (x : St) (air : Int32) (n : Nat) : kq x (hetA x air n) := (kq_degL x 125).tr (kq_it (kq_het1 air) _ n)
theorem kq_hohF (air : Int32) (y : St) (h : Nat) : kq y (hohF air y h) := kq_bri _ _ _
theorem kq_hetH (x : St) (air : Int32) (n : Nat) : kq x (it (hohF air) (hetA x air 25) n) := (kq_hetA x air 25).tr (kq_it (kq_hohF air) _ n)
theorem kq_hetF (x : St) (air : Int32) : kq x (hetF x air) := kq_hetH x air _
abbrev rm_X4_heat : Room := { frames := 1, cells := 0, slots := 0, locals := 22 }
set_option maxHeartbeats 400000 in
theorem k_X4_heat (l : Launch) (g : GG) (A : Nat → Prop) (ad : Nat → Nat → Nat) (x : St) (hok : okM x) (air : Int32) : Met l yX4_heat (ws_ yX4_heat cX4_heat 7 none) rm_X4_heat (va_Pc [.ref (ad 30 0), .int air] (mPre g A (mwM g ad x))) (pQv g A (mwM g ad (hetF x air))) 0 0 A := by
  refine m_start RX4 rfl (by decide) (Nat.le_of_ble_eq_true rfl) ?_
  intro p e s m args below meth c hcf hr hlk hnm hE hA H locs hM hS ls hl
  have hx := hcf.1
  have hb := hcf.2.1
  have hml := hcf.2.2.1
  have hown := hcf.2.2.2.1
  have hts := hcf.2.2.2.2
  have hl : lv_has ls 7 [(0, .ref (ad 30 0)), (1, .int air)] := hl
  generalize hQ : MQ below (pQv g A (mwM g ad (hetF x air))) args s 0 0 A = Q
  refine lv_iconst (v := 0) hx hb dX4_heat_0 (by decide) ?_
  refine lv_istore_n (lv' := [(2, .int 0), (0, .ref (ad 30 0)), (1, .int air)]) hx hb dX4_heat_1 rfl hl (by decide) rfl (fun ls hl => ?_)
  have L_2 : ∀ (n i_2 : Nat), i_2 + n = 125 → ∀ (H : Heap) (locs : List Loc) (ls : Array Slot), mW g.1 A (mwM g ad (degL x i_2)) H → va_S A s.heap H locs → lv_has ls 7 [(0, .ref (ad 30 0)), (1, .int air), (2, .int (nI i_2))] → W p l e rm_X4_heat s m args below meth c H locs 0 0 Q (F0 m 2 ls []) := by
    intro n
    induction n with
    | zero =>
      intro i_2 hi H locs ls hM hS hl 
      have hi : i_2 = 125 := by omega
      subst hi
      obtain ⟨x_4, ex_5⟩ : ∃ z : St, degL x 125 = z := ⟨_, rfl⟩
      rw [ex_5] at hM
      refine lv_iload_n hx hb dX4_heat_2 rfl (lv_at hl 2 rfl) ?_
      refine lv_bipush (v := 125) hx hb dX4_heat_3 (by decide) ?_
      refine lv_icmp_ge (tgt := 25) hx hb dX4_heat_5 (by decide) (fun _ => ?_) (fun c9 => absurd (by decide) c9)
      refine lv_iconst (v := 0) hx hb dX4_heat_25 (by decide) ?_
      refine lv_istore_n (lv' := [(2, .int 0), (0, .ref (ad 30 0)), (1, .int air)]) hx hb dX4_heat_26 rfl hl (by decide) rfl (fun ls hl => ?_)
      have L_7 : ∀ (n i_7 : Nat), i_7 + n = 25 → ∀ (H : Heap) (locs : List Loc) (ls : Array Slot), mW g.1 A (mwM g ad (hetA x air i_7)) H → va_S A s.heap H locs → lv_has ls 7 [(0, .ref (ad 30 0)), (1, .int air), (2, .int (nI i_7))] → W p l e rm_X4_heat s m args below meth c H locs 0 0 Q (F0 m 27 ls []) := by
        intro n
        induction n with
        | zero =>
          intro i_7 hi H locs ls hM hS hl 
          have hi : i_7 = 25 := by omega
          subst hi
          obtain ⟨x_9, ex_10⟩ : ∃ z : St, hetA x air 25 = z := ⟨_, rfl⟩
          rw [ex_10] at hM
          refine lv_iload_n hx hb dX4_heat_27 rfl (lv_at hl 2 rfl) ?_
          refine lv_bipush (v := 25) hx hb dX4_heat_28 (by decide) ?_
          refine lv_icmp_ge (tgt := 192) hx hb dX4_heat_30 (by decide) (fun _ => ?_) (fun c9 => absurd (by decide) c9)
          refine lv_iconst (v := 0) hx hb dX4_heat_192 (by decide) ?_
          refine lv_istore_n (lv' := [(2, .int 0), (0, .ref (ad 30 0)), (1, .int air)]) hx hb dX4_heat_193 rfl hl (by decide) rfl (fun ls hl => ?_)
          have L_12 : ∀ (n i_12 : Nat), i_12 + n = nt x 13 0 → ∀ (H : Heap) (locs : List Loc) (ls : Array Slot), mW g.1 A (mwM g ad (it (hohF air) (hetA x air 25) i_12)) H → va_S A s.heap H locs → lv_has ls 7 [(0, .ref (ad 30 0)), (1, .int air), (2, .int (nI i_12))] → W p l e rm_X4_heat s m args below meth c H locs 0 0 Q (F0 m 194 ls []) := by
            intro n
            induction n with
            | zero =>
              intro i_12 hi H locs ls hM hS hl 
              have hi : i_12 = nt x 13 0 := by omega
              subst hi
              obtain ⟨x_14, ex_15⟩ : ∃ z : St, it (hohF air) (hetA x air 25) (nt x 13 0) = z := ⟨_, rfl⟩
              rw [ex_15] at hM
              have hhb : nt x 13 0 < 11 := hok.h13.2
              have h13 : x_14.1 13 0 = nI (nt x 13 0) := by rw [← ex_15, kq_hetH x air _ 13 rfl]; exact hok.h13.1
              refine lv_iload_n hx hb dX4_heat_194 rfl (lv_at hl 2 rfl) ?_
              refine lv_aload_n hx hb dX4_heat_195 rfl (lv_at hl 0 rfl) ?_
              refine mm_get hcf hE hM 13 (by decide) q949 rfl rfl dX4_heat_196 ?_
              refine m_topI (y := nI (nt x 13 0)) (h13) ?_
              refine lv_icmp_ge (tgt := 240) hx hb dX4_heat_199 (by decide) (fun _ => ?_) (fun c9 => absurd (nI_le (Nat.le_refl _) (by omega)) c9)
              rw [← hQ]
              exact m_vret () hx hb hr hlk (by have hF : x_14 = hetF x air := (by subst ex_15 ex_10 ex_5; first | rfl | (unfold hetF; rfl)); rw [← hF]; exact hM) hS trivial (by first | decide | omega) (by first | decide | omega) dX4_heat_240
            | succ n ih =>
              intro i_12 hi H locs ls hM hS hl 
              have hlt_i_12 : i_12 < nt x 13 0 := by omega
              obtain ⟨x_17, ex_18⟩ : ∃ z : St, it (hohF air) (hetA x air 25) i_12 = z := ⟨_, rfl⟩
              rw [ex_18] at hM
              have hq9 : kq x x_17 := by rw [← ex_18]; exact kq_hetH x air _
              have ho : okM x_17 := hq9.ok hok
              have hh := hok.h13.2
              have h13 : x_17.1 13 0 = nI (nt x 13 0) := by rw [hq9 13 rfl]; exact hok.h13.1
              have hhb : nt x 13 0 < 11 := hok.h13.2
              refine lv_iload_n hx hb dX4_heat_194 rfl (lv_at hl 2 rfl) ?_
              refine lv_aload_n hx hb dX4_heat_195 rfl (lv_at hl 0 rfl) ?_
              refine mm_get hcf hE hM 13 (by decide) q949 rfl rfl dX4_heat_196 ?_
              refine m_topI (y := nI (nt x 13 0)) (h13) ?_
              refine lv_icmp_ge (tgt := 240) hx hb dX4_heat_199 (by decide) (fun c9 => absurd c9 (nI_ge (by omega) (by omega))) (fun _ => ?_)
              refine lv_aload_n hx hb dX4_heat_202 rfl (lv_at hl 0 rfl) ?_
              refine lv_iconst (v := 5) hx hb dX4_heat_203 (by decide) ?_
              refine lv_aload_n hx hb dX4_heat_204 rfl (lv_at hl 0 rfl) ?_
              refine mm_get hcf hE hM 14 (by decide) q950 rfl rfl dX4_heat_205 ?_
              refine lv_iload_n hx hb dX4_heat_208 rfl (lv_at hl 2 rfl) ?_
              refine mm_ald hcf hE hM 14 rfl (by decide) i_12 (by show _ < 10; omega) rfl dX4_heat_209 ?_
              have h149 : nt x_17 14 i_12 < 25 := (ho.h14 (by omega)).2
              refine m_topI (y := nI (nt x_17 14 i_12)) ((ho.h14 (by omega)).1) ?_
              refine lv_imul hx hb dX4_heat_210 ?_
              refine m_topI (y := nI (5 * nt x_17 14 i_12)) (pk_mul 5 (nt x_17 14 i_12)) ?_
              refine lv_aload_n hx hb dX4_heat_211 rfl (lv_at hl 0 rfl) ?_
              refine mm_get hcf hE hM 16 (by decide) q952 rfl rfl dX4_heat_212 ?_
              refine lv_iload_n hx hb dX4_heat_215 rfl (lv_at hl 2 rfl) ?_
              refine mm_zald hcf hE hM i_12 (by omega) rfl dX4_heat_216 ?_
              have J_23 : ∀ (v_21 : Int32), ((if (x_17.1 16 i_12) = 0 then 300 else (if 0 ≤ air then 300 else 0)) = v_21) → W p l e rm_X4_heat s m args below meth c H locs 0 0 Q (F0 m 231 ls [.int v_21, .int (nI (5 * nt x_17 14 i_12)), .ref (ad 30 0)]) := by
                intro v_21 ev_22
                refine m_cpv (m_rV (As := [.int (nI (5 * nt x_17 14 i_12)), .int v_21]) (rest := []) hcf (k_X4_bring l g A ad x_17 (5 * nt x_17 14 i_12) (by omega) v_21) (cwV 2 hts (lw_V q1081 q1083 qs21 q41 q1084) rfl rfl rfl (by decide +kernel) ⟨Nat.le_of_ble_eq_true rfl, Nat.le_of_ble_eq_true rfl⟩) hE hA hM hS 30 0 (mwM_o g ad _) (ci := 1) rfl rfl hl.1 rfl (Nat.le_of_ble_eq_true rfl) dX4_heat_231 ⟨Nat.le_of_ble_eq_true rfl, Nat.le_of_ble_eq_true rfl⟩) hS (fun H locs hM hS => ?_)
                obtain ⟨x_26, ex_27⟩ : ∃ z : St, briF x_17 (5 * nt x_17 14 i_12) v_21 = z := ⟨_, rfl⟩
                rw [ex_27] at hM
                refine lv_iinc (v := nI (i_12 + 1)) (lv' := [(2, .int (nI (i_12 + 1))), (0, .ref (ad 30 0)), (1, .int air)]) hx hb dX4_heat_234 hl (k := 2) rfl (nI_add i_12 1) (by decide) rfl (fun ls hl => ?_)
                refine lv_goto (tgt := 194) hx hb dX4_heat_237 (by decide) ?_
                exact ih (i_12 + 1) (by omega) H locs ls (by have hF : x_26 = it (hohF air) (hetA x air 25) (i_12 + 1) := (by subst ex_27 ev_22 ex_18; rfl); rw [← hF]; exact hM) hS (lv_sub hl [1, 2, 0] (by subst ex_27 ev_22 ex_18; rfl))
              refine lv_if_eq (tgt := 228) hx hb dX4_heat_217 (by decide) (fun c_19 => ?_) (fun c_19 => ?_)
              · refine lv_sipush (v := 300) hx hb dX4_heat_228 (by decide) ?_
                exact J_23 _ (by first | rfl | (rw [if_pos c_19]) | (simp only [c_19, if_true, if_false, ite_true, ite_false, not_false_eq_true, reduceIte]))
              · refine lv_iload_n hx hb dX4_heat_220 rfl (lv_at hl 1 rfl) ?_
                refine lv_if_ge (tgt := 228) hx hb dX4_heat_221 (by decide) (fun c_20 => ?_) (fun c_20 => ?_)
                · refine lv_sipush (v := 300) hx hb dX4_heat_228 (by decide) ?_
                  exact J_23 _ (by first | rfl | (rw [if_neg c_19, if_pos c_20]) | (simp only [c_19, c_20, if_true, if_false, ite_true, ite_false, not_false_eq_true, reduceIte]))
                · refine lv_iconst (v := 0) hx hb dX4_heat_224 (by decide) ?_
                  refine lv_goto (tgt := 231) hx hb dX4_heat_225 (by decide) ?_
                  exact J_23 _ (by first | rfl | (rw [if_neg c_19, if_neg c_20]) | (simp only [c_19, c_20, if_true, if_false, ite_true, ite_false, not_false_eq_true, reduceIte]))
          rw [← ex_10] at hM
          exact L_12 (nt x 13 0) 0 (by omega) H locs ls hM hS (lv_sub hl [1, 2, 0] rfl)
        | succ n ih =>
          intro i_7 hi H locs ls hM hS hl 
          have hlt_i_7 : i_7 < 25 := by omega
          obtain ⟨x_31, ex_32⟩ : ∃ z : St, hetA x air i_7 = z := ⟨_, rfl⟩
          rw [ex_32] at hM
          have ho : okM x_31 := by rw [← ex_32]; exact (kq_hetA x air _).ok hok
          have hdv := divOK ho (c := i_7) (by omega)
          refine lv_iload_n hx hb dX4_heat_27 rfl (lv_at hl 2 rfl) ?_
          refine lv_bipush (v := 25) hx hb dX4_heat_28 (by decide) ?_
          refine lv_icmp_ge (tgt := 192) hx hb dX4_heat_30 (by decide) (fun c9 => absurd c9 (nI_ge (a := i_7) (b := 25) (by omega) (by decide))) (fun _ => ?_)
          refine lv_aload_n hx hb dX4_heat_33 rfl (lv_at hl 0 rfl) ?_
          refine lv_iload_n hx hb dX4_heat_34 rfl (lv_at hl 2 rfl) ?_
          refine m_cpi (m_rV (As := [.int (nI i_7)]) (rest := []) hcf (k_X4_isLake l g A ad x_31 i_7 (by omega)) (cwV 1 hts (lw_V q1074 q1076 qs20 q41 q1077) rfl rfl rfl (by decide +kernel) ⟨Nat.le_of_ble_eq_true rfl, Nat.le_of_ble_eq_true rfl⟩) hE hA hM hS 30 0 (mwM_o g ad _) (ci := 1) rfl rfl hl.1 rfl (Nat.le_of_ble_eq_true rfl) dX4_heat_35 ⟨Nat.le_of_ble_eq_true rfl, Nat.le_of_ble_eq_true rfl⟩) hS (fun H locs hM hS => ?_)
          have J_39 : ∀ (v_37 : Int32), ((if (lakF x_31 i_7) = 0 then (60 / ((2 + (x_31.1 4 i_7)) + (2 * (x_31.1 5 i_7)))) else 30) = v_37) → W p l e rm_X4_heat s m args below meth c H locs 0 0 Q (F0 m 66 ls [.int v_37]) := by
            intro v_37 ev_38
            refine lv_istore_n (lv' := [(3, .int v_37), (0, .ref (ad 30 0)), (1, .int air), (2, .int (nI i_7))]) hx hb dX4_heat_66 rfl hl (by decide) rfl (fun ls hl => ?_)
            refine lv_aload_n hx hb dX4_heat_67 rfl (lv_at hl 1 rfl) ?_
            refine lv_iload_n hx hb dX4_heat_68 rfl (lv_at hl 3 rfl) ?_
            refine m_cpi (m_rV (As := [.int (nI i_7)]) (rest := []) hcf (k_X4_isLake l g A ad x_31 i_7 (by omega)) (cwV 1 hts (lw_V q1074 q1076 qs20 q41 q1077) rfl rfl rfl (by decide +kernel) ⟨Nat.le_of_ble_eq_true rfl, Nat.le_of_ble_eq_true rfl⟩) hE hA hM hS 30 0 (mwM_o g ad _) (ci := 1) rfl rfl hl.1 rfl (Nat.le_of_ble_eq_true rfl) dX4_heat_69 ⟨Nat.le_of_ble_eq_true rfl, Nat.le_of_ble_eq_true rfl⟩) hS (fun H locs hM hS => ?_)
            have J_50 : ∀ (H : Heap) (locs : List Loc) (v_48 : Int32), mW g.1 A (mwM g ad x_31) H → va_S A s.heap H locs → ((if (lakF x_31 i_7) = 0 then air else (greF 0 air)) = v_48) → W p l e rm_X4_heat s m args below meth c H locs 0 0 Q (F0 m 84 ls [.int v_48]) := by
              intro H locs v_48 hM hS ev_49
              refine lv_istore (lv' := [(4, .int v_48), (3, .int v_37), (0, .ref (ad 30 0)), (1, .int air), (2, .int (nI i_7))]) hx hb dX4_heat_84 hl (by decide) rfl (fun ls hl => ?_)
              refine lv_aload_n hx hb dX4_heat_86 rfl (lv_at hl 2 rfl) ?_
              refine lv_iconst (v := 5) hx hb dX4_heat_87 (by decide) ?_
              refine lv_iload_n hx hb dX4_heat_88 rfl (lv_at hl 4 rfl) ?_
              refine lv_imul hx hb dX4_heat_89 ?_
              refine m_topI (y := nI (5 * i_7)) (pk_mul 5 i_7) ?_
              refine lv_iload_n hx hb dX4_heat_90 rfl (lv_at hl 1 rfl) ?_
              refine lv_iload hx hb dX4_heat_91 (lv_at hl 0 rfl) ?_
              refine lv_aload_n hx hb dX4_heat_93 rfl (lv_at hl 2 rfl) ?_
              refine mm_get hcf hE hM 12 (by decide) q948 rfl rfl dX4_heat_94 ?_
              refine lv_iconst (v := 5) hx hb dX4_heat_97 (by decide) ?_
              refine lv_iload_n hx hb dX4_heat_98 rfl (lv_at hl 4 rfl) ?_
              refine lv_imul hx hb dX4_heat_99 ?_
              refine m_topI (y := nI (5 * i_7)) (pk_mul 5 i_7) ?_
              refine mm_ald hcf hE hM 12 rfl (by decide) (5 * i_7) (by show _ < 125; omega) rfl dX4_heat_100 ?_
              refine lv_isub hx hb dX4_heat_101 ?_
              refine lv_imul hx hb dX4_heat_102 ?_
              refine m_cpv (m_rV (As := [.int (nI (5 * i_7)), .int (v_37 * (v_48 - (x_31.1 12 (5 * i_7))))]) (rest := []) hcf (k_X4_bring l g A ad x_31 (5 * i_7) (by omega) (v_37 * (v_48 - (x_31.1 12 (5 * i_7))))) (cwV 2 hts (lw_V q1081 q1083 qs21 q41 q1084) rfl rfl rfl (by decide +kernel) ⟨Nat.le_of_ble_eq_true rfl, Nat.le_of_ble_eq_true rfl⟩) hE hA hM hS 30 0 (mwM_o g ad _) (ci := 1) rfl rfl hl.1 rfl (Nat.le_of_ble_eq_true rfl) dX4_heat_103 ⟨Nat.le_of_ble_eq_true rfl, Nat.le_of_ble_eq_true rfl⟩) hS (fun H locs hM hS => ?_)
              obtain ⟨x_54, ex_55⟩ : ∃ z : St, briF x_31 (5 * i_7) (v_37 * (v_48 - (x_31.1 12 (5 * i_7)))) = z := ⟨_, rfl⟩
              rw [ex_55] at hM
              refine lv_iconst (v := 5) hx hb dX4_heat_106 (by decide) ?_
              refine lv_iload_n hx hb dX4_heat_107 rfl (lv_at hl 4 rfl) ?_
              refine lv_imul hx hb dX4_heat_108 ?_
              refine m_topI (y := nI (5 * i_7)) (pk_mul 5 i_7) ?_
              refine lv_istore (lv' := [(5, .int (nI (5 * i_7))), (4, .int v_48), (3, .int v_37), (0, .ref (ad 30 0)), (1, .int air), (2, .int (nI i_7))]) hx hb dX4_heat_109 hl (by decide) rfl (fun ls hl => ?_)
              have L_58 : ∀ (n i_58 : Nat), i_58 + n = 4 → ∀ (H : Heap) (locs : List Loc) (ls : Array Slot), mW g.1 A (mwM g ad (conL x_54 i_7 i_58)) H → va_S A s.heap H locs → lv_has ls 7 [(0, .ref (ad 30 0)), (1, .int air), (2, .int (nI i_7)), (3, .int v_37), (4, .int v_48), (5, .int (nI (5 * i_7 + i_58)))] → W p l e rm_X4_heat s m args below meth c H locs 0 0 Q (F0 m 111 ls []) := by
                intro n
                induction n with
                | zero =>
                  intro i_58 hi H locs ls hM hS hl 
                  have hi : i_58 = 4 := by omega
                  subst hi
                  obtain ⟨x_60, ex_61⟩ : ∃ z : St, conL x_54 i_7 4 = z := ⟨_, rfl⟩
                  rw [ex_61] at hM
                  refine lv_iload hx hb dX4_heat_111 (lv_at hl 5 rfl) ?_
                  refine lv_iconst (v := 5) hx hb dX4_heat_113 (by decide) ?_
                  refine lv_iload_n hx hb dX4_heat_114 rfl (lv_at hl 2 rfl) ?_
                  refine lv_imul hx hb dX4_heat_115 ?_
                  refine m_topI (y := nI (5 * i_7)) (pk_mul 5 i_7) ?_
                  refine lv_iconst (v := 4) hx hb dX4_heat_116 (by decide) ?_
                  refine lv_iadd hx hb dX4_heat_117 ?_
                  refine m_topI (y := nI ((5 * i_7) + 4)) (nI_add (5 * i_7) 4) ?_
                  refine lv_icmp_ge (tgt := 175) hx hb dX4_heat_118 (by decide) (fun _ => ?_) (fun c9 => absurd (nI_le (Nat.le_refl _) (by omega)) c9)
                  refine lv_aload_n hx hb dX4_heat_175 rfl (lv_at hl 0 rfl) ?_
                  refine lv_iconst (v := 5) hx hb dX4_heat_176 (by decide) ?_
                  refine lv_iload_n hx hb dX4_heat_177 rfl (lv_at hl 2 rfl) ?_
                  refine lv_imul hx hb dX4_heat_178 ?_
                  refine m_topI (y := nI (5 * i_7)) (pk_mul 5 i_7) ?_
                  refine lv_iconst (v := 4) hx hb dX4_heat_179 (by decide) ?_
                  refine lv_iadd hx hb dX4_heat_180 ?_
                  refine m_topI (y := nI ((5 * i_7) + 4)) (nI_add (5 * i_7) 4) ?_
                  refine lv_bipush (v := 10) hx hb dX4_heat_181 (by decide) ?_
                  refine m_cpv (m_rV (As := [.int (nI ((5 * i_7) + 4)), .int 10]) (rest := []) hcf (k_X4_bring l g A ad x_60 ((5 * i_7) + 4) (by omega) 10) (cwV 2 hts (lw_V q1081 q1083 qs21 q41 q1084) rfl rfl rfl (by decide +kernel) ⟨Nat.le_of_ble_eq_true rfl, Nat.le_of_ble_eq_true rfl⟩) hE hA hM hS 30 0 (mwM_o g ad _) (ci := 1) rfl rfl hl.1 rfl (Nat.le_of_ble_eq_true rfl) dX4_heat_183 ⟨Nat.le_of_ble_eq_true rfl, Nat.le_of_ble_eq_true rfl⟩) hS (fun H locs hM hS => ?_)
                  obtain ⟨x_64, ex_65⟩ : ∃ z : St, briF x_60 ((5 * i_7) + 4) 10 = z := ⟨_, rfl⟩
                  rw [ex_65] at hM
                  refine lv_iinc (v := nI (i_7 + 1)) (lv' := [(2, .int (nI (i_7 + 1))), (0, .ref (ad 30 0)), (1, .int air), (3, .int v_37), (4, .int v_48), (5, .int (nI (5 * i_7 + 4)))]) hx hb dX4_heat_186 hl (k := 2) rfl (nI_add i_7 1) (by decide) rfl (fun ls hl => ?_)
                  refine lv_goto (tgt := 27) hx hb dX4_heat_189 (by decide) ?_
                  exact ih (i_7 + 1) (by omega) H locs ls (by have hF : x_64 = hetA x air (i_7 + 1) := (by subst ex_65 ex_61 ex_55 ev_49 ev_38 ex_32; rfl); rw [← hF]; exact hM) hS (lv_sub hl [1, 2, 0] (by subst ex_65 ex_61 ex_55 ev_49 ev_38 ex_32; rfl))
                | succ n ih =>
                  intro i_58 hi H locs ls hM hS hl 
                  have hlt_i_58 : i_58 < 4 := by omega
                  obtain ⟨x_69, ex_70⟩ : ∃ z : St, conL x_54 i_7 i_58 = z := ⟨_, rfl⟩
                  rw [ex_70] at hM
                  refine lv_iload hx hb dX4_heat_111 (lv_at hl 5 rfl) ?_
                  refine lv_iconst (v := 5) hx hb dX4_heat_113 (by decide) ?_
                  refine lv_iload_n hx hb dX4_heat_114 rfl (lv_at hl 2 rfl) ?_
                  refine lv_imul hx hb dX4_heat_115 ?_
                  refine m_topI (y := nI (5 * i_7)) (pk_mul 5 i_7) ?_
                  refine lv_iconst (v := 4) hx hb dX4_heat_116 (by decide) ?_
                  refine lv_iadd hx hb dX4_heat_117 ?_
                  refine m_topI (y := nI ((5 * i_7) + 4)) (nI_add (5 * i_7) 4) ?_
                  refine lv_icmp_ge (tgt := 175) hx hb dX4_heat_118 (by decide) (fun c9 => absurd c9 (nI_ge (by omega) (by omega))) (fun _ => ?_)
                  refine lv_bipush (v := 20) hx hb dX4_heat_121 (by decide) ?_
                  refine lv_aload_n hx hb dX4_heat_123 rfl (lv_at hl 0 rfl) ?_
                  refine mm_get hcf hE hM 12 (by decide) q948 rfl rfl dX4_heat_124 ?_
                  refine lv_iload hx hb dX4_heat_127 (lv_at hl 5 rfl) ?_
                  refine mm_ald hcf hE hM 12 rfl (by decide) (5 * i_7 + i_58) (by show _ < 125; omega) rfl dX4_heat_129 ?_
                  refine lv_aload_n hx hb dX4_heat_130 rfl (lv_at hl 0 rfl) ?_
                  refine mm_get hcf hE hM 12 (by decide) q948 rfl rfl dX4_heat_131 ?_
                  refine lv_iload hx hb dX4_heat_134 (lv_at hl 5 rfl) ?_
                  refine lv_iconst (v := 1) hx hb dX4_heat_136 (by decide) ?_
                  refine lv_iadd hx hb dX4_heat_137 ?_
                  refine m_topI (y := nI ((5 * i_7 + i_58) + 1)) (nI_add (5 * i_7 + i_58) 1) ?_
                  refine mm_ald hcf hE hM 12 rfl (by decide) ((5 * i_7 + i_58) + 1) (by show _ < 125; omega) rfl dX4_heat_138 ?_
                  refine lv_isub hx hb dX4_heat_139 ?_
                  refine lv_imul hx hb dX4_heat_140 ?_
                  refine lv_istore (lv' := [(6, .int (20 * ((x_69.1 12 (5 * i_7 + i_58)) - (x_69.1 12 ((5 * i_7 + i_58) + 1))))), (0, .ref (ad 30 0)), (1, .int air), (2, .int (nI i_7)), (3, .int v_37), (4, .int v_48), (5, .int (nI (5 * i_7 + i_58)))]) hx hb dX4_heat_141 hl (by decide) rfl (fun ls hl => ?_)
                  refine lv_aload_n hx hb dX4_heat_143 rfl (lv_at hl 1 rfl) ?_
                  refine mm_get hcf hE hM 10 (by decide) q946 rfl rfl dX4_heat_144 ?_
                  refine lv_iload hx hb dX4_heat_147 (lv_at hl 6 rfl) ?_
                  refine lv_dup2_11 hx hb dX4_heat_149 rfl rfl ?_
                  refine mm_ald hcf hE hM 10 rfl (by decide) (5 * i_7 + i_58) (by show _ < 125; omega) rfl dX4_heat_150 ?_
                  refine lv_iload hx hb dX4_heat_151 (lv_at hl 0 rfl) ?_
                  refine lv_isub hx hb dX4_heat_153 ?_
                  refine mm_ast hcf hE hM hS 10 rfl (by decide) (5 * i_7 + i_58) (by show _ < 125; omega) rfl dX4_heat_154 (fun x_72 H locs ex_73 hM hS => ?_)
                  refine lv_aload_n hx hb dX4_heat_155 rfl (lv_at hl 1 rfl) ?_
                  refine mm_get hcf hE hM 10 (by decide) q946 rfl rfl dX4_heat_156 ?_
                  refine lv_iload hx hb dX4_heat_159 (lv_at hl 6 rfl) ?_
                  refine lv_iconst (v := 1) hx hb dX4_heat_161 (by decide) ?_
                  refine lv_iadd hx hb dX4_heat_162 ?_
                  refine m_topI (y := nI ((5 * i_7 + i_58) + 1)) (nI_add (5 * i_7 + i_58) 1) ?_
                  refine lv_dup2_11 hx hb dX4_heat_163 rfl rfl ?_
                  refine mm_ald hcf hE hM 10 rfl (by decide) ((5 * i_7 + i_58) + 1) (by show _ < 125; omega) rfl dX4_heat_164 ?_
                  refine lv_iload hx hb dX4_heat_165 (lv_at hl 0 rfl) ?_
                  refine lv_iadd hx hb dX4_heat_167 ?_
                  refine mm_ast hcf hE hM hS 10 rfl (by decide) ((5 * i_7 + i_58) + 1) (by show _ < 125; omega) rfl dX4_heat_168 (fun x_74 H locs ex_75 hM hS => ?_)
                  refine lv_iinc (v := nI ((5 * i_7 + i_58) + 1)) (lv' := [(5, .int (nI ((5 * i_7 + i_58) + 1))), (6, .int (20 * ((x_69.1 12 (5 * i_7 + i_58)) - (x_69.1 12 ((5 * i_7 + i_58) + 1))))), (0, .ref (ad 30 0)), (1, .int air), (2, .int (nI i_7)), (3, .int v_37), (4, .int v_48)]) hx hb dX4_heat_169 hl (k := 6) rfl (nI_add (5 * i_7 + i_58) 1) (by decide) rfl (fun ls hl => ?_)
                  refine lv_goto (tgt := 111) hx hb dX4_heat_172 (by decide) ?_
                  exact ih (i_58 + 1) (by omega) H locs ls (by have hF : x_74 = conL x_54 i_7 (i_58 + 1) := (by subst ex_75 ex_73 ex_70; rfl); rw [← hF]; exact hM) hS (lv_sub hl [2, 3, 4, 5, 6, 0] (by subst ex_75 ex_73 ex_70; rfl))
              exact L_58 (4) 0 (by omega) H locs ls hM hS (lv_sub hl [3, 4, 5, 2, 1, 0] rfl)
            refine lv_if_eq (tgt := 83) hx hb dX4_heat_72 (by decide) (fun c_44 => ?_) (fun c_44 => ?_)
            · refine lv_iload_n hx hb dX4_heat_83 rfl (lv_at hl 2 rfl) ?_
              exact J_50 H locs _ hM hS (by first | rfl | (rw [if_pos c_44]) | (simp only [c_44, if_true, if_false, ite_true, ite_false, not_false_eq_true, reduceIte]))
            · refine lv_iconst (v := 0) hx hb dX4_heat_75 (by decide) ?_
              refine lv_iload_n hx hb dX4_heat_76 rfl (lv_at hl 2 rfl) ?_
              refine m_cpi (m_rS (As := [.int 0, .int air]) (rest := []) hcf (k_X4_greater l g A (mwM g ad x_31) 0 air) (va_cwS 2 hts (lw_S q1078 q1079 q41 q1080) rfl rfl rfl (by decide +kernel) ⟨Nat.le_of_ble_eq_true rfl, Nat.le_of_ble_eq_true rfl⟩) hE hA hM hS rfl hl.1 rfl (Nat.le_of_ble_eq_true rfl) dX4_heat_77 ⟨Nat.le_of_ble_eq_true rfl, Nat.le_of_ble_eq_true rfl⟩) hS (fun H locs hM hS => ?_)
              refine lv_goto (tgt := 84) hx hb dX4_heat_80 (by decide) ?_
              exact J_50 H locs _ hM hS (by first | rfl | (rw [if_neg c_44]) | (simp only [c_44, if_true, if_false, ite_true, ite_false, not_false_eq_true, reduceIte]))
          refine lv_if_eq (tgt := 46) hx hb dX4_heat_38 (by decide) (fun c_36 => ?_) (fun c_36 => ?_)
          · refine lv_bipush (v := 60) hx hb dX4_heat_46 (by decide) ?_
            refine lv_iconst (v := 2) hx hb dX4_heat_48 (by decide) ?_
            refine lv_aload_n hx hb dX4_heat_49 rfl (lv_at hl 0 rfl) ?_
            refine mm_get hcf hE hM 4 (by decide) q940 rfl rfl dX4_heat_50 ?_
            refine lv_iload_n hx hb dX4_heat_53 rfl (lv_at hl 2 rfl) ?_
            refine mm_ald hcf hE hM 4 rfl (by decide) i_7 (by show _ < 25; omega) rfl dX4_heat_54 ?_
            refine lv_iadd hx hb dX4_heat_55 ?_
            refine lv_iconst (v := 2) hx hb dX4_heat_56 (by decide) ?_
            refine lv_aload_n hx hb dX4_heat_57 rfl (lv_at hl 0 rfl) ?_
            refine mm_get hcf hE hM 5 (by decide) q941 rfl rfl dX4_heat_58 ?_
            refine lv_iload_n hx hb dX4_heat_61 rfl (lv_at hl 2 rfl) ?_
            refine mm_ald hcf hE hM 5 rfl (by decide) i_7 (by show _ < 25; omega) rfl dX4_heat_62 ?_
            refine lv_imul hx hb dX4_heat_63 ?_
            refine lv_iadd hx hb dX4_heat_64 ?_
            refine lv_idiv hx hb dX4_heat_65 hdv ?_
            exact J_39 _ (by first | rfl | (rw [if_pos c_36]) | (simp only [c_36, if_true, if_false, ite_true, ite_false, not_false_eq_true, reduceIte]))
          · refine lv_bipush (v := 30) hx hb dX4_heat_41 (by decide) ?_
            refine lv_goto (tgt := 66) hx hb dX4_heat_43 (by decide) ?_
            exact J_39 _ (by first | rfl | (rw [if_neg c_36]) | (simp only [c_36, if_true, if_false, ite_true, ite_false, not_false_eq_true, reduceIte]))
      rw [← ex_5] at hM
      exact L_7 (25) 0 (by omega) H locs ls hM hS (lv_sub hl [1, 2, 0] rfl)
    | succ n ih =>
      intro i_2 hi H locs ls hM hS hl 
      have hlt_i_2 : i_2 < 125 := by omega
      obtain ⟨x_78, ex_79⟩ : ∃ z : St, degL x i_2 = z := ⟨_, rfl⟩
      rw [ex_79] at hM
      refine lv_iload_n hx hb dX4_heat_2 rfl (lv_at hl 2 rfl) ?_
      refine lv_bipush (v := 125) hx hb dX4_heat_3 (by decide) ?_
      refine lv_icmp_ge (tgt := 25) hx hb dX4_heat_5 (by decide) (fun c9 => absurd c9 (nI_ge (a := i_2) (b := 125) (by omega) (by decide))) (fun _ => ?_)
      refine lv_aload_n hx hb dX4_heat_8 rfl (lv_at hl 0 rfl) ?_
      refine mm_get hcf hE hM 12 (by decide) q948 rfl rfl dX4_heat_9 ?_
      refine lv_iload_n hx hb dX4_heat_12 rfl (lv_at hl 2 rfl) ?_
      refine lv_aload_n hx hb dX4_heat_13 rfl (lv_at hl 0 rfl) ?_
      refine lv_iload_n hx hb dX4_heat_14 rfl (lv_at hl 2 rfl) ?_
      refine m_cpi (m_rV (As := [.int (nI i_2)]) (rest := [.int (nI i_2), .ref (ad 31 12)]) hcf (k_X4_degreesOf l g A ad x_78 i_2 (by omega)) (cwV 1 hts (lw_V q1070 q1072 qs19 q41 q1073) rfl rfl rfl (by decide +kernel) ⟨Nat.le_of_ble_eq_true rfl, Nat.le_of_ble_eq_true rfl⟩) hE hA hM hS 30 0 (mwM_o g ad _) (ci := 1) rfl rfl hl.1 rfl (Nat.le_of_ble_eq_true rfl) dX4_heat_15 ⟨Nat.le_of_ble_eq_true rfl, Nat.le_of_ble_eq_true rfl⟩) hS (fun H locs hM hS => ?_)
      refine mm_ast hcf hE hM hS 12 rfl (by decide) i_2 (by show _ < 125; omega) rfl dX4_heat_18 (fun x_83 H locs ex_84 hM hS => ?_)
      refine lv_iinc (v := nI (i_2 + 1)) (lv' := [(2, .int (nI (i_2 + 1))), (0, .ref (ad 30 0)), (1, .int air)]) hx hb dX4_heat_19 hl (k := 2) rfl (nI_add i_2 1) (by decide) rfl (fun ls hl => ?_)
      refine lv_goto (tgt := 2) hx hb dX4_heat_22 (by decide) ?_
      exact ih (i_2 + 1) (by omega) H locs ls (by have hF : x_83 = degL x (i_2 + 1) := (by subst ex_84 ex_79; rfl); rw [← hF]; exact hM) hS (lv_sub hl [1, 2, 0] (by subst ex_84 ex_79; rfl))
  exact L_2 (125) 0 (by omega) H locs ls hM hS (lv_sub hl [1, 2, 0] rfl)
