/-! the reference: passOne -/
set_option maxRecDepth 100000
def snoF (air fall : Int32) (y : St) (c : Nat) : St := sI y 4 c (if 0 ≤ air then 0 else lesF 9 (y.1 4 c + fall))
def pa1 (x : St) (air fall : Int32) : Nat → St := it (snoF air fall) x
def pa3 (x : St) (air fall : Int32) : Nat → St := it sinF (hetF (pa1 x air fall 25) air)
def pa4 (x : St) (air fall : Int32) : Nat → St := it floF (pa3 x air fall 125)
def pa5 (x : St) (air fall : Int32) : St := if (-20) < air then pa4 x air fall 25 else craF (pa4 x air fall 25)
def pa6 (x : St) (air fall : Int32) : Nat → St := it (fun y c => wakF y c air) (pa5 x air fall)
def tilF (y : St) (h : Nat) : St := sI y 17 h (y.1 17 h + (if y.1 10 (5 * nt y 14 h + nt y 15 h) < 0 then 0 else 1))
def pa7 (x : St) (air fall : Int32) : Nat → St := it tilF (pa6 x air fall 25)
def reaF (b : Nat) (z : St) (k : Nat) : St := sI z 23 (3000 * b + 5 * nt z 1 0 + k) (degF z (5 * nt z 20 b + k) + z.1 21 b * (nI (nt z 1 0 + 1) - z.1 22 b) / 12)
def reaI (y : St) (b : Nat) : Nat → St := it (reaF b) y
def reaB (y : St) (b : Nat) : St := reaI y b 5
def pa8 (x : St) (air fall : Int32) : Nat → St := it reaB (pa7 x air fall (nt x 13 0))
def pasF (x : St) (air fall : Int32) : St := sI (pa8 x air fall (nt x 19 0)) 1 0 (nI (nt (pa8 x air fall (nt x 19 0)) 1 0 + 1))
theorem it_succ {α : Type} (f : α → Nat → α) (a : α) (n : Nat) : it f a (n + 1) = f (it f a n) n := rfl
theorem pa1_s (x : St) (air fall : Int32) (i : Nat) : pa1 x air fall (i + 1) = snoF air fall (pa1 x air fall i) i := it_succ _ _ _
theorem pa3_s (x : St) (air fall : Int32) (i : Nat) : pa3 x air fall (i + 1) = sinF (pa3 x air fall i) i := it_succ _ _ _
theorem pa4_s (x : St) (air fall : Int32) (i : Nat) : pa4 x air fall (i + 1) = floF (pa4 x air fall i) i := it_succ _ _ _
theorem pa6_s (x : St) (air fall : Int32) (i : Nat) : pa6 x air fall (i + 1) = wakF (pa6 x air fall i) i air := it_succ _ _ _
theorem pa7_s (x : St) (air fall : Int32) (i : Nat) : pa7 x air fall (i + 1) = tilF (pa7 x air fall i) i := it_succ _ _ _
theorem pa8_s (x : St) (air fall : Int32) (i : Nat) : pa8 x air fall (i + 1) = reaI (pa8 x air fall i) i 5 := it_succ _ _ _
theorem reaI_s (y : St) (b i : Nat) : reaI y b (i + 1) = reaF b (reaI y b i) i := it_succ _ _ _
theorem sno_key : ∀ a, a < 10 → ∀ b, b < 10 → (lesF 9 (nI a + nI b) = nI (lesF 9 (nI a + nI b)).toNatClampNeg ∧ (lesF 9 (nI a + nI b)).toNatClampNeg < 10) := by decide +kernel
theorem ok_sno {air fall : Int32} (hf : okN fall 10) {y : St} (ho : okM y) {c : Nat} (hc : c < 25) : okM (snoF air fall y c) := by
  intro f k hb
  by_cases h : f = 4 ∧ k = c
  · obtain ⟨rfl, rfl⟩ := h
    have e : (snoF air fall y k).1 4 k = if 0 ≤ air then 0 else lesF 9 (y.1 4 k + fall) := if_pos ⟨rfl, rfl⟩
    rw [e]
    split
    · exact ⟨rfl, by decide⟩
    · obtain ⟨e1, b1⟩ := ho.h4 hc
      obtain ⟨e2, b2⟩ := hf
      rw [e1, e2]
      exact sno_key _ b1 _ b2
  · have e : (snoF air fall y c).1 f k = y.1 f k := if_neg h
    rw [e]
    exact ho f k hb
theorem kp_sno (air fall : Int32) (y : St) (c : Nat) : kp y (snoF air fall y c) := fun f _ h4 => sI_ne y 4 c _ h4
theorem ok_pa1 {x : St} {air fall : Int32} (hok : okM x) (hf : okN fall 10) : ∀ i, i ≤ 25 → okM (pa1 x air fall i) := by
  intro i
  induction i with
  | zero => intro _; exact hok
  | succ i ih => intro h; exact ok_sno hf (ih (by omega)) (by omega)
theorem kp_pa1 (x : St) (air fall : Int32) : ∀ i, kp x (pa1 x air fall i) := by
  intro i
  induction i with
  | zero => exact kp.rf x
  | succ i ih => exact ih.tr (kp_sno _ _ _ _)
theorem kq_sin (x : St) (k : Nat) : kq x (sinF x k) := (kq_sI rfl).tr ((kq_sI rfl).tr ((kq_sI rfl).tr (kq_sI rfl)))
theorem kq_flo (x : St) (k : Nat) : kq x (floF x k) := kq_if (kq.rf x) ((kq_sI rfl).tr (kq_sI rfl))
theorem kq_cra (x : St) : kq x (craF x) := kq_if (kq_if (kq_sI rfl) (kq_if (kq_sI rfl) ((kq_sI rfl).tr ((kq_sI rfl).tr ((kq_sI rfl).tr ((kq_sI rfl).tr (kq_sI rfl))))))) (kq.rf x)
theorem kq_wakL (x : St) (c k : Nat) : kq x (wakL x c k) := kq_if (kq.rf x) ((kq_sI rfl).tr (kq_sL.tr kq_sL))
theorem kq_wakM (x : St) (c n : Nat) : kq x (wakM x c n) := kq_it (fun _ _ => kq_wakL _ _ _) x n
theorem kq_wak (x : St) (c : Nat) (air : Int32) : kq x (wakF x c air) := (kq_wakM x c 5).tr (kq_if (kq.rf _) (kq_if (kq_sL.tr (kq_sI rfl)) (kq.rf _)))
theorem kq_til (x : St) (k : Nat) : kq x (tilF x k) := kq_sI rfl
theorem kq_rea (b : Nat) (x : St) (k : Nat) : kq x (reaF b x k) := kq_sI rfl
theorem kq_reaI (x : St) (b n : Nat) : kq x (reaI x b n) := kq_it (kq_rea b) x n
theorem kq_reaB (x : St) (b : Nat) : kq x (reaB x b) := kq_reaI x b 5
theorem kq_pa3 (x : St) (air fall : Int32) (n : Nat) : kq (pa1 x air fall 25) (pa3 x air fall n) := (kq_hetF _ _).tr (kq_it kq_sin _ n)
theorem kq_pa4 (x : St) (air fall : Int32) (n : Nat) : kq (pa1 x air fall 25) (pa4 x air fall n) := (kq_pa3 x air fall 125).tr (kq_it kq_flo _ n)
theorem kq_pa5 (x : St) (air fall : Int32) : kq (pa1 x air fall 25) (pa5 x air fall) := kq_if (kq_pa4 x air fall 25) ((kq_pa4 x air fall 25).tr (kq_cra _))
theorem kq_pa6 (x : St) (air fall : Int32) (n : Nat) : kq (pa1 x air fall 25) (pa6 x air fall n) := (kq_pa5 x air fall).tr (kq_it (fun _ _ => kq_wak _ _ _) _ n)
theorem kq_pa7 (x : St) (air fall : Int32) (n : Nat) : kq (pa1 x air fall 25) (pa7 x air fall n) := (kq_pa6 x air fall 25).tr (kq_it kq_til _ n)
theorem kq_pa8 (x : St) (air fall : Int32) (n : Nat) : kq (pa1 x air fall 25) (pa8 x air fall n) := (kq_pa7 x air fall _).tr (kq_it kq_reaB _ n)
abbrev rm_X4_passOne : Room := { frames := 3, cells := 0, slots := 0, locals := 64 }
set_option maxHeartbeats 2000000 in
theorem k_X4_passOne (l : Launch) (g : GG) (A : Nat → Prop) (ad : Nat → Nat → Nat) (x : St) (hok : okM x) (air fall : Int32) (hf : okN fall 10) (hm : nt x 1 0 < 600) : Met l yX4_passOne (ws_ yX4_passOne cX4_passOne 5 none) rm_X4_passOne (va_Pc [.ref (ad 30 0), .int air, .int fall] (mPre g A (mwM g ad x))) (pQv g A (mwM g ad (pasF x air fall))) 0 0 A := by
  refine m_start RX4 rfl (by decide) (Nat.le_of_ble_eq_true rfl) ?_
  intro p e s m args below meth c hcf hr hlk hnm hE hA H locs hM hS ls hl
  have hx := hcf.1
  have hb := hcf.2.1
  have hml := hcf.2.2.1
  have hown := hcf.2.2.2.1
  have hts := hcf.2.2.2.2
  have hl : lv_has ls 5 [(0, .ref (ad 30 0)), (1, .int air), (2, .int fall)] := hl
  generalize hQ : MQ below (pQv g A (mwM g ad (pasF x air fall))) args s 0 0 A = Q
  refine lv_iconst (v := 0) hx hb dX4_passOne_0 (by decide) ?_
  refine lv_istore_n (lv' := [(3, .int 0), (0, .ref (ad 30 0)), (1, .int air), (2, .int fall)]) hx hb dX4_passOne_1 rfl hl (by decide) rfl (fun ls hl => ?_)
  have L_2 : ∀ (n i_2 : Nat), i_2 + n = 25 → ∀ (H : Heap) (locs : List Loc) (ls : Array Slot), mW g.1 A (mwM g ad (pa1 x air fall i_2)) H → va_S A s.heap H locs → lv_has ls 5 [(0, .ref (ad 30 0)), (1, .int air), (2, .int fall), (3, .int (nI i_2))] → W p l e rm_X4_passOne s m args below meth c H locs 0 0 Q (F0 m 2 ls []) := by
    intro n
    induction n with
    | zero =>
      intro i_2 hi H locs ls hM hS hl 
      have hi : i_2 = 25 := by omega
      subst hi
      obtain ⟨x_4, ex_5⟩ : ∃ z : St, pa1 x air fall 25 = z := ⟨_, rfl⟩
      rw [ex_5] at hM
      refine lv_iload_n hx hb dX4_passOne_2 rfl (lv_at hl 3 rfl) ?_
      refine lv_bipush (v := 25) hx hb dX4_passOne_3 (by decide) ?_
      refine lv_icmp_ge (tgt := 41) hx hb dX4_passOne_5 (by decide) (fun _ => ?_) (fun c9 => absurd (by decide) c9)
      refine lv_aload_n hx hb dX4_passOne_41 rfl (lv_at hl 0 rfl) ?_
      have ho : okM x_4 := by rw [← ex_5]; exact ok_pa1 hok hf 25 (by omega)
      refine lv_iload_n hx hb dX4_passOne_42 rfl (lv_at hl 1 rfl) ?_
      refine m_cpv (m_rV (As := [.int air]) (rest := []) hcf (k_X4_heat l g A ad x_4 ho air) (cwV 1 hts (lw_V q1066 q1068 qs18 q41 q1069) rfl rfl rfl (by decide +kernel) ⟨Nat.le_of_ble_eq_true rfl, Nat.le_of_ble_eq_true rfl⟩) hE hA hM hS 30 0 (mwM_o g ad _) (ci := 1) rfl rfl hl.1 rfl (Nat.le_of_ble_eq_true rfl) dX4_passOne_43 ⟨Nat.le_of_ble_eq_true rfl, Nat.le_of_ble_eq_true rfl⟩) hS (fun H locs hM hS => ?_)
      obtain ⟨x_8, ex_9⟩ : ∃ z : St, hetF x_4 air = z := ⟨_, rfl⟩
      rw [ex_9] at hM
      refine lv_iconst (v := 0) hx hb dX4_passOne_46 (by decide) ?_
      refine lv_istore_n (lv' := [(3, .int 0), (0, .ref (ad 30 0)), (1, .int air), (2, .int fall)]) hx hb dX4_passOne_47 rfl hl (by decide) rfl (fun ls hl => ?_)
      have L_12 : ∀ (n i_12 : Nat), i_12 + n = 125 → ∀ (H : Heap) (locs : List Loc) (ls : Array Slot), mW g.1 A (mwM g ad (pa3 x air fall i_12)) H → va_S A s.heap H locs → lv_has ls 5 [(0, .ref (ad 30 0)), (1, .int air), (2, .int fall), (3, .int (nI i_12))] → W p l e rm_X4_passOne s m args below meth c H locs 0 0 Q (F0 m 48 ls []) := by
        intro n
        induction n with
        | zero =>
          intro i_12 hi H locs ls hM hS hl 
          have hi : i_12 = 125 := by omega
          subst hi
          obtain ⟨x_14, ex_15⟩ : ∃ z : St, pa3 x air fall 125 = z := ⟨_, rfl⟩
          rw [ex_15] at hM
          refine lv_iload_n hx hb dX4_passOne_48 rfl (lv_at hl 3 rfl) ?_
          refine lv_bipush (v := 125) hx hb dX4_passOne_49 (by decide) ?_
          refine lv_icmp_ge (tgt := 65) hx hb dX4_passOne_51 (by decide) (fun _ => ?_) (fun c9 => absurd (by decide) c9)
          refine lv_iconst (v := 0) hx hb dX4_passOne_65 (by decide) ?_
          refine lv_istore_n (lv' := [(3, .int 0), (0, .ref (ad 30 0)), (1, .int air), (2, .int fall)]) hx hb dX4_passOne_66 rfl hl (by decide) rfl (fun ls hl => ?_)
          have L_17 : ∀ (n i_17 : Nat), i_17 + n = 25 → ∀ (H : Heap) (locs : List Loc) (ls : Array Slot), mW g.1 A (mwM g ad (pa4 x air fall i_17)) H → va_S A s.heap H locs → lv_has ls 5 [(0, .ref (ad 30 0)), (1, .int air), (2, .int fall), (3, .int (nI i_17))] → W p l e rm_X4_passOne s m args below meth c H locs 0 0 Q (F0 m 67 ls []) := by
            intro n
            induction n with
            | zero =>
              intro i_17 hi H locs ls hM hS hl 
              have hi : i_17 = 25 := by omega
              subst hi
              obtain ⟨x_19, ex_20⟩ : ∃ z : St, pa4 x air fall 25 = z := ⟨_, rfl⟩
              rw [ex_20] at hM
              refine lv_iload_n hx hb dX4_passOne_67 rfl (lv_at hl 3 rfl) ?_
              refine lv_bipush (v := 25) hx hb dX4_passOne_68 (by decide) ?_
              refine lv_icmp_ge (tgt := 84) hx hb dX4_passOne_70 (by decide) (fun _ => ?_) (fun c9 => absurd (by decide) c9)
              refine lv_iload_n hx hb dX4_passOne_84 rfl (lv_at hl 1 rfl) ?_
              refine lv_bipush (v := (-20)) hx hb dX4_passOne_85 (by decide) ?_
              have J_29 : ∀ (H : Heap) (locs : List Loc) (x_27 : St), mW g.1 A (mwM g ad x_27) H → va_S A s.heap H locs → ((if (-20) < air then x_19 else (craF x_19)) = x_27) → W p l e rm_X4_passOne s m args below meth c H locs 0 0 Q (F0 m 94 ls []) := by
                intro H locs x_27 hM hS ex_28
                refine lv_iconst (v := 0) hx hb dX4_passOne_94 (by decide) ?_
                refine lv_istore_n (lv' := [(3, .int 0), (0, .ref (ad 30 0)), (1, .int air), (2, .int fall)]) hx hb dX4_passOne_95 rfl hl (by decide) rfl (fun ls hl => ?_)
                have L_31 : ∀ (n i_31 : Nat), i_31 + n = 25 → ∀ (H : Heap) (locs : List Loc) (ls : Array Slot), mW g.1 A (mwM g ad (pa6 x air fall i_31)) H → va_S A s.heap H locs → lv_has ls 5 [(0, .ref (ad 30 0)), (1, .int air), (2, .int fall), (3, .int (nI i_31))] → W p l e rm_X4_passOne s m args below meth c H locs 0 0 Q (F0 m 96 ls []) := by
                  intro n
                  induction n with
                  | zero =>
                    intro i_31 hi H locs ls hM hS hl 
                    have hi : i_31 = 25 := by omega
                    subst hi
                    obtain ⟨x_33, ex_34⟩ : ∃ z : St, pa6 x air fall 25 = z := ⟨_, rfl⟩
                    rw [ex_34] at hM
                    refine lv_iload_n hx hb dX4_passOne_96 rfl (lv_at hl 3 rfl) ?_
                    refine lv_bipush (v := 25) hx hb dX4_passOne_97 (by decide) ?_
                    refine lv_icmp_ge (tgt := 114) hx hb dX4_passOne_99 (by decide) (fun _ => ?_) (fun c9 => absurd (by decide) c9)
                    refine lv_iconst (v := 0) hx hb dX4_passOne_114 (by decide) ?_
                    refine lv_istore_n (lv' := [(3, .int 0), (0, .ref (ad 30 0)), (1, .int air), (2, .int fall)]) hx hb dX4_passOne_115 rfl hl (by decide) rfl (fun ls hl => ?_)
                    have L_36 : ∀ (n i_36 : Nat), i_36 + n = nt x 13 0 → ∀ (H : Heap) (locs : List Loc) (ls : Array Slot), mW g.1 A (mwM g ad (pa7 x air fall i_36)) H → va_S A s.heap H locs → lv_has ls 5 [(0, .ref (ad 30 0)), (1, .int air), (2, .int fall), (3, .int (nI i_36))] → W p l e rm_X4_passOne s m args below meth c H locs 0 0 Q (F0 m 116 ls []) := by
                      intro n
                      induction n with
                      | zero =>
                        intro i_36 hi H locs ls hM hS hl 
                        have hi : i_36 = nt x 13 0 := by omega
                        subst hi
                        obtain ⟨x_38, ex_39⟩ : ∃ z : St, pa7 x air fall (nt x 13 0) = z := ⟨_, rfl⟩
                        rw [ex_39] at hM
                        have hq9 : kq (pa1 x air fall 25) x_38 := by rw [← ex_39]; exact kq_pa7 x air fall _
                        have hpq : kp x x_38 := (kp_pa1 x air fall 25).tr hq9.p
                        have ho : okM x_38 := hq9.ok (ok_pa1 hok hf 25 (by omega))
                        have h13 : x_38.1 13 0 = nI (nt x 13 0) := by rw [← hpq.n (f := 13) rfl (by decide) 0]; exact ho.h13.1
                        have h19 : x_38.1 19 0 = nI (nt x 19 0) := by rw [← hpq.n (f := 19) rfl (by decide) 0]; exact ho.h19.1
                        have hb13 : nt x 13 0 < 11 := hok.h13.2
                        have hb19 : nt x 19 0 < 11 := hok.h19.2
                        have hm9 : nt x_38 1 0 < 600 := by rw [hpq.n (f := 1) rfl (by decide) 0]; exact hm
                        refine lv_iload_n hx hb dX4_passOne_116 rfl (lv_at hl 3 rfl) ?_
                        refine lv_aload_n hx hb dX4_passOne_117 rfl (lv_at hl 0 rfl) ?_
                        refine mm_get hcf hE hM 13 (by decide) q949 rfl rfl dX4_passOne_118 ?_
                        refine m_topI (y := nI (nt x 13 0)) (h13) ?_
                        refine lv_icmp_ge (tgt := 167) hx hb dX4_passOne_121 (by decide) (fun _ => ?_) (fun c9 => absurd (nI_le (Nat.le_refl _) (by omega)) c9)
                        refine lv_iconst (v := 0) hx hb dX4_passOne_167 (by decide) ?_
                        refine lv_istore_n (lv' := [(3, .int 0), (0, .ref (ad 30 0)), (1, .int air), (2, .int fall)]) hx hb dX4_passOne_168 rfl hl (by decide) rfl (fun ls hl => ?_)
                        have L_41 : ∀ (n i_41 : Nat), i_41 + n = nt x 19 0 → ∀ (H : Heap) (locs : List Loc) (ls : Array Slot), mW g.1 A (mwM g ad (pa8 x air fall i_41)) H → va_S A s.heap H locs → lv_has ls 5 [(0, .ref (ad 30 0)), (1, .int air), (2, .int fall), (3, .int (nI i_41))] → W p l e rm_X4_passOne s m args below meth c H locs 0 0 Q (F0 m 169 ls []) := by
                          intro n
                          induction n with
                          | zero =>
                            intro i_41 hi H locs ls hM hS hl 
                            have hi : i_41 = nt x 19 0 := by omega
                            subst hi
                            obtain ⟨x_43, ex_44⟩ : ∃ z : St, pa8 x air fall (nt x 19 0) = z := ⟨_, rfl⟩
                            rw [ex_44] at hM
                            have hq9 : kq (pa1 x air fall 25) x_43 := by rw [← ex_44]; exact kq_pa8 x air fall _
                            have hpq : kp x x_43 := (kp_pa1 x air fall 25).tr hq9.p
                            have ho : okM x_43 := hq9.ok (ok_pa1 hok hf 25 (by omega))
                            have h13 : x_43.1 13 0 = nI (nt x 13 0) := by rw [← hpq.n (f := 13) rfl (by decide) 0]; exact ho.h13.1
                            have h19 : x_43.1 19 0 = nI (nt x 19 0) := by rw [← hpq.n (f := 19) rfl (by decide) 0]; exact ho.h19.1
                            have hb13 : nt x 13 0 < 11 := hok.h13.2
                            have hb19 : nt x 19 0 < 11 := hok.h19.2
                            have hm9 : nt x_43 1 0 < 600 := by rw [hpq.n (f := 1) rfl (by decide) 0]; exact hm
                            refine lv_iload_n hx hb dX4_passOne_169 rfl (lv_at hl 3 rfl) ?_
                            refine lv_aload_n hx hb dX4_passOne_170 rfl (lv_at hl 0 rfl) ?_
                            refine mm_get hcf hE hM 19 (by decide) q955 rfl rfl dX4_passOne_171 ?_
                            refine m_topI (y := nI (nt x 19 0)) (h19) ?_
                            refine lv_icmp_ge (tgt := 257) hx hb dX4_passOne_174 (by decide) (fun _ => ?_) (fun c9 => absurd (nI_le (Nat.le_refl _) (by omega)) c9)
                            refine lv_aload_n hx hb dX4_passOne_257 rfl (lv_at hl 0 rfl) ?_
                            refine lv_dup hx hb dX4_passOne_258 rfl ?_
                            refine mm_get hcf hE hM 1 (by decide) q937 rfl rfl dX4_passOne_259 ?_
                            refine m_topI (y := nI (nt x_43 1 0)) (ho.h1.1) ?_
                            refine lv_iconst (v := 1) hx hb dX4_passOne_262 (by decide) ?_
                            refine lv_iadd hx hb dX4_passOne_263 ?_
                            refine m_topI (y := nI (nt x_43 1 0 + 1)) (nI_add (nt x_43 1 0) 1) ?_
                            refine mm_puti hcf hE hM hS 1 (by decide) rfl q937 rfl rfl rfl (nI (nt x_43 1 0 + 1)) rfl dX4_passOne_264 (fun x_45 H locs ex_46 hM hS => ?_)
                            rw [← hQ]
                            exact m_vret () hx hb hr hlk (by have hF : x_45 = pasF x air fall := (by subst ex_46 ex_44 ex_39 ex_34 ex_28 ex_20 ex_15 ex_9 ex_5; first | rfl | (unfold pasF; rfl)); rw [← hF]; exact hM) hS trivial (by first | decide | omega) (by first | decide | omega) dX4_passOne_267
                          | succ n ih =>
                            intro i_41 hi H locs ls hM hS hl 
                            have hlt_i_41 : i_41 < nt x 19 0 := by omega
                            obtain ⟨x_48, ex_49⟩ : ∃ z : St, pa8 x air fall i_41 = z := ⟨_, rfl⟩
                            rw [ex_49] at hM
                            have hq9 : kq (pa1 x air fall 25) x_48 := by rw [← ex_49]; exact kq_pa8 x air fall _
                            have hpq : kp x x_48 := (kp_pa1 x air fall 25).tr hq9.p
                            have ho : okM x_48 := hq9.ok (ok_pa1 hok hf 25 (by omega))
                            have h13 : x_48.1 13 0 = nI (nt x 13 0) := by rw [← hpq.n (f := 13) rfl (by decide) 0]; exact ho.h13.1
                            have h19 : x_48.1 19 0 = nI (nt x 19 0) := by rw [← hpq.n (f := 19) rfl (by decide) 0]; exact ho.h19.1
                            have hb13 : nt x 13 0 < 11 := hok.h13.2
                            have hb19 : nt x 19 0 < 11 := hok.h19.2
                            have hm9 : nt x_48 1 0 < 600 := by rw [hpq.n (f := 1) rfl (by decide) 0]; exact hm
                            refine lv_iload_n hx hb dX4_passOne_169 rfl (lv_at hl 3 rfl) ?_
                            refine lv_aload_n hx hb dX4_passOne_170 rfl (lv_at hl 0 rfl) ?_
                            refine mm_get hcf hE hM 19 (by decide) q955 rfl rfl dX4_passOne_171 ?_
                            refine m_topI (y := nI (nt x 19 0)) (h19) ?_
                            refine lv_icmp_ge (tgt := 257) hx hb dX4_passOne_174 (by decide) (fun c9 => absurd c9 (nI_ge (by omega) (by omega))) (fun _ => ?_)
                            refine lv_iconst (v := 0) hx hb dX4_passOne_177 (by decide) ?_
                            refine lv_istore (lv' := [(4, .int 0), (0, .ref (ad 30 0)), (1, .int air), (2, .int fall), (3, .int (nI i_41))]) hx hb dX4_passOne_178 hl (by decide) rfl (fun ls hl => ?_)
                            have L_51 : ∀ (n i_51 : Nat), i_51 + n = 5 → ∀ (H : Heap) (locs : List Loc) (ls : Array Slot), mW g.1 A (mwM g ad (reaI x_48 i_41 i_51)) H → va_S A s.heap H locs → lv_has ls 5 [(0, .ref (ad 30 0)), (1, .int air), (2, .int fall), (3, .int (nI i_41)), (4, .int (nI i_51))] → W p l e rm_X4_passOne s m args below meth c H locs 0 0 Q (F0 m 180 ls []) := by
                              intro n
                              induction n with
                              | zero =>
                                intro i_51 hi H locs ls hM hS hl 
                                have hi : i_51 = 5 := by omega
                                subst hi
                                obtain ⟨x_53, ex_54⟩ : ∃ z : St, reaI x_48 i_41 5 = z := ⟨_, rfl⟩
                                rw [ex_54] at hM
                                have hq9 : kq (pa1 x air fall 25) x_53 := by rw [← ex_54]; exact hq9.tr (kq_reaI _ _ _)
                                have hpq : kp x x_53 := (kp_pa1 x air fall 25).tr hq9.p
                                have ho : okM x_53 := hq9.ok (ok_pa1 hok hf 25 (by omega))
                                have h13 : x_53.1 13 0 = nI (nt x 13 0) := by rw [← hpq.n (f := 13) rfl (by decide) 0]; exact ho.h13.1
                                have h19 : x_53.1 19 0 = nI (nt x 19 0) := by rw [← hpq.n (f := 19) rfl (by decide) 0]; exact ho.h19.1
                                have hb13 : nt x 13 0 < 11 := hok.h13.2
                                have hb19 : nt x 19 0 < 11 := hok.h19.2
                                have hm9 : nt x_53 1 0 < 600 := by rw [hpq.n (f := 1) rfl (by decide) 0]; exact hm
                                refine lv_iload hx hb dX4_passOne_180 (lv_at hl 4 rfl) ?_
                                refine lv_iconst (v := 5) hx hb dX4_passOne_182 (by decide) ?_
                                refine lv_icmp_ge (tgt := 251) hx hb dX4_passOne_183 (by decide) (fun _ => ?_) (fun c9 => absurd (by decide) c9)
                                refine lv_iinc (v := nI (i_41 + 1)) (lv' := [(3, .int (nI (i_41 + 1))), (0, .ref (ad 30 0)), (1, .int air), (2, .int fall), (4, .int (nI 5))]) hx hb dX4_passOne_251 hl (k := 3) rfl (nI_add i_41 1) (by decide) rfl (fun ls hl => ?_)
                                refine lv_goto (tgt := 169) hx hb dX4_passOne_254 (by decide) ?_
                                exact ih (i_41 + 1) (by omega) H locs ls (by have hF : x_53 = pa8 x air fall (i_41 + 1) := (by subst ex_54 ex_49; exact (pa8_s _ _ _ _).symm); rw [← hF]; exact hM) hS (lv_sub hl [1, 2, 3, 0] (by subst ex_54 ex_49; rfl))
                              | succ n ih =>
                                intro i_51 hi H locs ls hM hS hl 
                                have hlt_i_51 : i_51 < 5 := by omega
                                obtain ⟨x_57, ex_58⟩ : ∃ z : St, reaI x_48 i_41 i_51 = z := ⟨_, rfl⟩
                                rw [ex_58] at hM
                                have hq9 : kq (pa1 x air fall 25) x_57 := by rw [← ex_58]; exact hq9.tr (kq_reaI _ _ _)
                                have hpq : kp x x_57 := (kp_pa1 x air fall 25).tr hq9.p
                                have ho : okM x_57 := hq9.ok (ok_pa1 hok hf 25 (by omega))
                                have h13 : x_57.1 13 0 = nI (nt x 13 0) := by rw [← hpq.n (f := 13) rfl (by decide) 0]; exact ho.h13.1
                                have h19 : x_57.1 19 0 = nI (nt x 19 0) := by rw [← hpq.n (f := 19) rfl (by decide) 0]; exact ho.h19.1
                                have hb13 : nt x 13 0 < 11 := hok.h13.2
                                have hb19 : nt x 19 0 < 11 := hok.h19.2
                                have hm9 : nt x_57 1 0 < 600 := by rw [hpq.n (f := 1) rfl (by decide) 0]; exact hm
                                refine lv_iload hx hb dX4_passOne_180 (lv_at hl 4 rfl) ?_
                                refine lv_iconst (v := 5) hx hb dX4_passOne_182 (by decide) ?_
                                refine lv_icmp_ge (tgt := 251) hx hb dX4_passOne_183 (by decide) (fun c9 => absurd c9 (nI_ge (a := i_51) (b := 5) (by omega) (by decide))) (fun _ => ?_)
                                refine lv_aload_n hx hb dX4_passOne_186 rfl (lv_at hl 0 rfl) ?_
                                refine mm_get hcf hE hM 23 (by decide) q959 rfl rfl dX4_passOne_187 ?_
                                refine lv_sipush (v := 3000) hx hb dX4_passOne_190 (by decide) ?_
                                refine lv_iload_n hx hb dX4_passOne_193 rfl (lv_at hl 3 rfl) ?_
                                refine lv_imul hx hb dX4_passOne_194 ?_
                                refine m_topI (y := nI (3000 * i_41)) (pk_mul 3000 i_41) ?_
                                refine lv_iconst (v := 5) hx hb dX4_passOne_195 (by decide) ?_
                                refine lv_aload_n hx hb dX4_passOne_196 rfl (lv_at hl 0 rfl) ?_
                                refine mm_get hcf hE hM 1 (by decide) q937 rfl rfl dX4_passOne_197 ?_
                                refine m_topI (y := nI (nt x_57 1 0)) (ho.h1.1) ?_
                                refine lv_imul hx hb dX4_passOne_200 ?_
                                refine m_topI (y := nI (5 * nt x_57 1 0)) (pk_mul 5 (nt x_57 1 0)) ?_
                                refine lv_iadd hx hb dX4_passOne_201 ?_
                                refine m_topI (y := nI ((3000 * i_41) + (5 * nt x_57 1 0))) (nI_add (3000 * i_41) (5 * nt x_57 1 0)) ?_
                                refine lv_iload hx hb dX4_passOne_202 (lv_at hl 4 rfl) ?_
                                refine lv_iadd hx hb dX4_passOne_204 ?_
                                refine m_topI (y := nI (((3000 * i_41) + (5 * nt x_57 1 0)) + i_51)) (nI_add ((3000 * i_41) + (5 * nt x_57 1 0)) i_51) ?_
                                refine lv_aload_n hx hb dX4_passOne_205 rfl (lv_at hl 0 rfl) ?_
                                refine lv_iconst (v := 5) hx hb dX4_passOne_206 (by decide) ?_
                                refine lv_aload_n hx hb dX4_passOne_207 rfl (lv_at hl 0 rfl) ?_
                                refine mm_get hcf hE hM 20 (by decide) q956 rfl rfl dX4_passOne_208 ?_
                                refine lv_iload_n hx hb dX4_passOne_211 rfl (lv_at hl 3 rfl) ?_
                                refine mm_ald hcf hE hM 20 rfl (by decide) i_41 (by show _ < 10; omega) rfl dX4_passOne_212 ?_
                                have h209 : nt x_57 20 i_41 < 25 := (ho.h20 (by omega)).2
                                refine m_topI (y := nI (nt x_57 20 i_41)) ((ho.h20 (by omega)).1) ?_
                                refine lv_imul hx hb dX4_passOne_213 ?_
                                refine m_topI (y := nI (5 * nt x_57 20 i_41)) (pk_mul 5 (nt x_57 20 i_41)) ?_
                                refine lv_iload hx hb dX4_passOne_214 (lv_at hl 4 rfl) ?_
                                refine lv_iadd hx hb dX4_passOne_216 ?_
                                refine m_topI (y := nI ((5 * nt x_57 20 i_41) + i_51)) (nI_add (5 * nt x_57 20 i_41) i_51) ?_
                                refine m_cpi (m_rV (As := [.int (nI ((5 * nt x_57 20 i_41) + i_51))]) (rest := [.int (nI (((3000 * i_41) + (5 * nt x_57 1 0)) + i_51)), .ref (ad 31 23)]) hcf (k_X4_degreesOf l g A ad x_57 ((5 * nt x_57 20 i_41) + i_51) (by omega)) (cwV 1 hts (lw_V q1070 q1072 qs19 q41 q1073) rfl rfl rfl (by decide +kernel) ⟨Nat.le_of_ble_eq_true rfl, Nat.le_of_ble_eq_true rfl⟩) hE hA hM hS 30 0 (mwM_o g ad _) (ci := 1) rfl rfl hl.1 rfl (Nat.le_of_ble_eq_true rfl) dX4_passOne_217 ⟨Nat.le_of_ble_eq_true rfl, Nat.le_of_ble_eq_true rfl⟩) hS (fun H locs hM hS => ?_)
                                refine lv_aload_n hx hb dX4_passOne_220 rfl (lv_at hl 0 rfl) ?_
                                refine mm_get hcf hE hM 21 (by decide) q957 rfl rfl dX4_passOne_221 ?_
                                refine lv_iload_n hx hb dX4_passOne_224 rfl (lv_at hl 3 rfl) ?_
                                refine mm_ald hcf hE hM 21 rfl (by decide) i_41 (by show _ < 10; omega) rfl dX4_passOne_225 ?_
                                refine lv_aload_n hx hb dX4_passOne_226 rfl (lv_at hl 0 rfl) ?_
                                refine mm_get hcf hE hM 1 (by decide) q937 rfl rfl dX4_passOne_227 ?_
                                refine m_topI (y := nI (nt x_57 1 0)) (ho.h1.1) ?_
                                refine lv_iconst (v := 1) hx hb dX4_passOne_230 (by decide) ?_
                                refine lv_iadd hx hb dX4_passOne_231 ?_
                                refine m_topI (y := nI (nt x_57 1 0 + 1)) (nI_add (nt x_57 1 0) 1) ?_
                                refine lv_aload_n hx hb dX4_passOne_232 rfl (lv_at hl 0 rfl) ?_
                                refine mm_get hcf hE hM 22 (by decide) q958 rfl rfl dX4_passOne_233 ?_
                                refine lv_iload_n hx hb dX4_passOne_236 rfl (lv_at hl 3 rfl) ?_
                                refine mm_ald hcf hE hM 22 rfl (by decide) i_41 (by show _ < 10; omega) rfl dX4_passOne_237 ?_
                                refine lv_isub hx hb dX4_passOne_238 ?_
                                refine lv_imul hx hb dX4_passOne_239 ?_
                                refine lv_bipush (v := 12) hx hb dX4_passOne_240 (by decide) ?_
                                refine lv_idiv hx hb dX4_passOne_242 (by decide) ?_
                                refine lv_iadd hx hb dX4_passOne_243 ?_
                                refine mm_ast hcf hE hM hS 23 rfl (by decide) (((3000 * i_41) + (5 * nt x_57 1 0)) + i_51) (by show _ < 30000; omega) rfl dX4_passOne_244 (fun x_62 H locs ex_63 hM hS => ?_)
                                refine lv_iinc (v := nI (i_51 + 1)) (lv' := [(4, .int (nI (i_51 + 1))), (0, .ref (ad 30 0)), (1, .int air), (2, .int fall), (3, .int (nI i_41))]) hx hb dX4_passOne_245 hl (k := 4) rfl (nI_add i_51 1) (by decide) rfl (fun ls hl => ?_)
                                refine lv_goto (tgt := 180) hx hb dX4_passOne_248 (by decide) ?_
                                exact ih (i_51 + 1) (by omega) H locs ls (by have hF : x_62 = reaI x_48 i_41 (i_51 + 1) := (by subst ex_63 ex_58; rfl); rw [← hF]; exact hM) hS (lv_sub hl [1, 2, 3, 4, 0] (by subst ex_63 ex_58; rfl))
                            exact L_51 (5) 0 (by omega) H locs ls hM hS (lv_sub hl [1, 2, 3, 4, 0] rfl)
                        rw [← ex_39] at hM
                        exact L_41 (nt x 19 0) 0 (by omega) H locs ls hM hS (lv_sub hl [1, 2, 3, 0] rfl)
                      | succ n ih =>
                        intro i_36 hi H locs ls hM hS hl 
                        have hlt_i_36 : i_36 < nt x 13 0 := by omega
                        obtain ⟨x_66, ex_67⟩ : ∃ z : St, pa7 x air fall i_36 = z := ⟨_, rfl⟩
                        rw [ex_67] at hM
                        have hq9 : kq (pa1 x air fall 25) x_66 := by rw [← ex_67]; exact kq_pa7 x air fall _
                        have hpq : kp x x_66 := (kp_pa1 x air fall 25).tr hq9.p
                        have ho : okM x_66 := hq9.ok (ok_pa1 hok hf 25 (by omega))
                        have h13 : x_66.1 13 0 = nI (nt x 13 0) := by rw [← hpq.n (f := 13) rfl (by decide) 0]; exact ho.h13.1
                        have h19 : x_66.1 19 0 = nI (nt x 19 0) := by rw [← hpq.n (f := 19) rfl (by decide) 0]; exact ho.h19.1
                        have hb13 : nt x 13 0 < 11 := hok.h13.2
                        have hb19 : nt x 19 0 < 11 := hok.h19.2
                        have hm9 : nt x_66 1 0 < 600 := by rw [hpq.n (f := 1) rfl (by decide) 0]; exact hm
                        refine lv_iload_n hx hb dX4_passOne_116 rfl (lv_at hl 3 rfl) ?_
                        refine lv_aload_n hx hb dX4_passOne_117 rfl (lv_at hl 0 rfl) ?_
                        refine mm_get hcf hE hM 13 (by decide) q949 rfl rfl dX4_passOne_118 ?_
                        refine m_topI (y := nI (nt x 13 0)) (h13) ?_
                        refine lv_icmp_ge (tgt := 167) hx hb dX4_passOne_121 (by decide) (fun c9 => absurd c9 (nI_ge (by omega) (by omega))) (fun _ => ?_)
                        refine lv_aload_n hx hb dX4_passOne_124 rfl (lv_at hl 0 rfl) ?_
                        refine mm_get hcf hE hM 17 (by decide) q953 rfl rfl dX4_passOne_125 ?_
                        refine lv_iload_n hx hb dX4_passOne_128 rfl (lv_at hl 3 rfl) ?_
                        refine lv_dup2_11 hx hb dX4_passOne_129 rfl rfl ?_
                        refine mm_ald hcf hE hM 17 rfl (by decide) i_36 (by show _ < 10; omega) rfl dX4_passOne_130 ?_
                        refine lv_aload_n hx hb dX4_passOne_131 rfl (lv_at hl 0 rfl) ?_
                        refine mm_get hcf hE hM 10 (by decide) q946 rfl rfl dX4_passOne_132 ?_
                        refine lv_iconst (v := 5) hx hb dX4_passOne_135 (by decide) ?_
                        refine lv_aload_n hx hb dX4_passOne_136 rfl (lv_at hl 0 rfl) ?_
                        refine mm_get hcf hE hM 14 (by decide) q950 rfl rfl dX4_passOne_137 ?_
                        refine lv_iload_n hx hb dX4_passOne_140 rfl (lv_at hl 3 rfl) ?_
                        refine mm_ald hcf hE hM 14 rfl (by decide) i_36 (by show _ < 10; omega) rfl dX4_passOne_141 ?_
                        have h149 : nt x_66 14 i_36 < 25 := (ho.h14 (by omega)).2
                        refine m_topI (y := nI (nt x_66 14 i_36)) ((ho.h14 (by omega)).1) ?_
                        refine lv_imul hx hb dX4_passOne_142 ?_
                        refine m_topI (y := nI (5 * nt x_66 14 i_36)) (pk_mul 5 (nt x_66 14 i_36)) ?_
                        refine lv_aload_n hx hb dX4_passOne_143 rfl (lv_at hl 0 rfl) ?_
                        refine mm_get hcf hE hM 15 (by decide) q951 rfl rfl dX4_passOne_144 ?_
                        refine lv_iload_n hx hb dX4_passOne_147 rfl (lv_at hl 3 rfl) ?_
                        refine mm_ald hcf hE hM 15 rfl (by decide) i_36 (by show _ < 10; omega) rfl dX4_passOne_148 ?_
                        have h159 : nt x_66 15 i_36 < 5 := (ho.h15 (by omega)).2
                        refine m_topI (y := nI (nt x_66 15 i_36)) ((ho.h15 (by omega)).1) ?_
                        refine lv_iadd hx hb dX4_passOne_149 ?_
                        refine m_topI (y := nI ((5 * nt x_66 14 i_36) + nt x_66 15 i_36)) (nI_add (5 * nt x_66 14 i_36) (nt x_66 15 i_36)) ?_
                        refine mm_ald hcf hE hM 10 rfl (by decide) ((5 * nt x_66 14 i_36) + nt x_66 15 i_36) (by show _ < 125; omega) rfl dX4_passOne_150 ?_
                        have J_71 : ∀ (v_69 : Int32), ((if (x_66.1 10 ((5 * nt x_66 14 i_36) + nt x_66 15 i_36)) < 0 then 0 else 1) = v_69) → W p l e rm_X4_passOne s m args below meth c H locs 0 0 Q (F0 m 159 ls [.int v_69, .int (x_66.1 17 i_36), .int (nI i_36), .ref (ad 31 17)]) := by
                          intro v_69 ev_70
                          refine lv_iadd hx hb dX4_passOne_159 ?_
                          refine mm_ast hcf hE hM hS 17 rfl (by decide) i_36 (by show _ < 10; omega) rfl dX4_passOne_160 (fun x_72 H locs ex_73 hM hS => ?_)
                          refine lv_iinc (v := nI (i_36 + 1)) (lv' := [(3, .int (nI (i_36 + 1))), (0, .ref (ad 30 0)), (1, .int air), (2, .int fall)]) hx hb dX4_passOne_161 hl (k := 3) rfl (nI_add i_36 1) (by decide) rfl (fun ls hl => ?_)
                          refine lv_goto (tgt := 116) hx hb dX4_passOne_164 (by decide) ?_
                          exact ih (i_36 + 1) (by omega) H locs ls (by have hF : x_72 = pa7 x air fall (i_36 + 1) := (by subst ex_73 ev_70 ex_67; rfl); rw [← hF]; exact hM) hS (lv_sub hl [1, 2, 3, 0] (by subst ex_73 ev_70 ex_67; rfl))
                        refine lv_if_lt (tgt := 158) hx hb dX4_passOne_151 (by decide) (fun c_68 => ?_) (fun c_68 => ?_)
                        · refine lv_iconst (v := 0) hx hb dX4_passOne_158 (by decide) ?_
                          exact J_71 _ (by first | rfl | (rw [if_pos c_68]) | (simp only [c_68, if_true, if_false, ite_true, ite_false, not_false_eq_true, reduceIte]))
                        · refine lv_iconst (v := 1) hx hb dX4_passOne_154 (by decide) ?_
                          refine lv_goto (tgt := 159) hx hb dX4_passOne_155 (by decide) ?_
                          exact J_71 _ (by first | rfl | (rw [if_neg c_68]) | (simp only [c_68, if_true, if_false, ite_true, ite_false, not_false_eq_true, reduceIte]))
                    rw [← ex_34] at hM
                    exact L_36 (nt x 13 0) 0 (by omega) H locs ls hM hS (lv_sub hl [1, 2, 3, 0] rfl)
                  | succ n ih =>
                    intro i_31 hi H locs ls hM hS hl 
                    have hlt_i_31 : i_31 < 25 := by omega
                    obtain ⟨x_76, ex_77⟩ : ∃ z : St, pa6 x air fall i_31 = z := ⟨_, rfl⟩
                    rw [ex_77] at hM
                    refine lv_iload_n hx hb dX4_passOne_96 rfl (lv_at hl 3 rfl) ?_
                    refine lv_bipush (v := 25) hx hb dX4_passOne_97 (by decide) ?_
                    refine lv_icmp_ge (tgt := 114) hx hb dX4_passOne_99 (by decide) (fun c9 => absurd c9 (nI_ge (a := i_31) (b := 25) (by omega) (by decide))) (fun _ => ?_)
                    refine lv_aload_n hx hb dX4_passOne_102 rfl (lv_at hl 0 rfl) ?_
                    refine lv_iload_n hx hb dX4_passOne_103 rfl (lv_at hl 3 rfl) ?_
                    refine lv_iload_n hx hb dX4_passOne_104 rfl (lv_at hl 1 rfl) ?_
                    refine m_cpv (m_rV (As := [.int (nI i_31), .int air]) (rest := []) hcf (k_X4_wake l g A ad x_76 i_31 (by omega) air) (cwV 2 hts (lw_V q1104 q1106 qs26 q41 q1107) rfl rfl rfl (by decide +kernel) ⟨Nat.le_of_ble_eq_true rfl, Nat.le_of_ble_eq_true rfl⟩) hE hA hM hS 30 0 (mwM_o g ad _) (ci := 1) rfl rfl hl.1 rfl (Nat.le_of_ble_eq_true rfl) dX4_passOne_105 ⟨Nat.le_of_ble_eq_true rfl, Nat.le_of_ble_eq_true rfl⟩) hS (fun H locs hM hS => ?_)
                    obtain ⟨x_80, ex_81⟩ : ∃ z : St, wakF x_76 i_31 air = z := ⟨_, rfl⟩
                    rw [ex_81] at hM
                    refine lv_iinc (v := nI (i_31 + 1)) (lv' := [(3, .int (nI (i_31 + 1))), (0, .ref (ad 30 0)), (1, .int air), (2, .int fall)]) hx hb dX4_passOne_108 hl (k := 3) rfl (nI_add i_31 1) (by decide) rfl (fun ls hl => ?_)
                    refine lv_goto (tgt := 96) hx hb dX4_passOne_111 (by decide) ?_
                    exact ih (i_31 + 1) (by omega) H locs ls (by have hF : x_80 = pa6 x air fall (i_31 + 1) := (by subst ex_81 ex_77; exact (pa6_s _ _ _ _).symm); rw [← hF]; exact hM) hS (lv_sub hl [1, 2, 3, 0] (by subst ex_81 ex_77; rfl))
                have h5 : x_27 = pa5 x air fall := by subst ex_28 ex_20; rfl
                rw [h5] at hM
                exact L_31 (25) 0 (by omega) H locs ls hM hS (lv_sub hl [1, 2, 3, 0] rfl)
              refine lv_icmp_gt (tgt := 94) hx hb dX4_passOne_87 (by decide) (fun c_21 => ?_) (fun c_21 => ?_)
              · skip
                exact J_29 H locs _ hM hS (by first | rfl | (rw [if_pos c_21]) | (simp only [c_21, if_true, if_false, ite_true, ite_false, not_false_eq_true, reduceIte]))
              · refine lv_aload_n hx hb dX4_passOne_90 rfl (lv_at hl 0 rfl) ?_
                refine m_cpv (m_rV (As := []) (rest := []) hcf (k_X4_crack l g A ad x_19 ) (cwV 0 hts (lw_V q1100 q1102 qs25 q41 q1103) rfl rfl rfl (by decide +kernel) ⟨Nat.le_of_ble_eq_true rfl, Nat.le_of_ble_eq_true rfl⟩) hE hA hM hS 30 0 (mwM_o g ad _) (ci := 1) rfl rfl hl.1 rfl (Nat.le_of_ble_eq_true rfl) dX4_passOne_91 ⟨Nat.le_of_ble_eq_true rfl, Nat.le_of_ble_eq_true rfl⟩) hS (fun H locs hM hS => ?_)
                obtain ⟨x_24, ex_25⟩ : ∃ z : St, craF x_19 = z := ⟨_, rfl⟩
                rw [ex_25] at hM
                exact J_29 H locs _ hM hS (by subst ex_25; first | rfl | (rw [if_neg c_21]) | (simp only [c_21, if_true, if_false, ite_true, ite_false, not_false_eq_true, reduceIte]))
            | succ n ih =>
              intro i_17 hi H locs ls hM hS hl 
              have hlt_i_17 : i_17 < 25 := by omega
              obtain ⟨x_85, ex_86⟩ : ∃ z : St, pa4 x air fall i_17 = z := ⟨_, rfl⟩
              rw [ex_86] at hM
              refine lv_iload_n hx hb dX4_passOne_67 rfl (lv_at hl 3 rfl) ?_
              refine lv_bipush (v := 25) hx hb dX4_passOne_68 (by decide) ?_
              refine lv_icmp_ge (tgt := 84) hx hb dX4_passOne_70 (by decide) (fun c9 => absurd c9 (nI_ge (a := i_17) (b := 25) (by omega) (by decide))) (fun _ => ?_)
              refine lv_aload_n hx hb dX4_passOne_73 rfl (lv_at hl 0 rfl) ?_
              refine lv_iload_n hx hb dX4_passOne_74 rfl (lv_at hl 3 rfl) ?_
              refine m_cpv (m_rV (As := [.int (nI i_17)]) (rest := []) hcf (k_X4_flow l g A ad x_85 i_17 (by omega)) (cwV 1 hts (lw_V q1093 q1095 qs24 q41 q1096) rfl rfl rfl (by decide +kernel) ⟨Nat.le_of_ble_eq_true rfl, Nat.le_of_ble_eq_true rfl⟩) hE hA hM hS 30 0 (mwM_o g ad _) (ci := 1) rfl rfl hl.1 rfl (Nat.le_of_ble_eq_true rfl) dX4_passOne_75 ⟨Nat.le_of_ble_eq_true rfl, Nat.le_of_ble_eq_true rfl⟩) hS (fun H locs hM hS => ?_)
              obtain ⟨x_89, ex_90⟩ : ∃ z : St, floF x_85 i_17 = z := ⟨_, rfl⟩
              rw [ex_90] at hM
              refine lv_iinc (v := nI (i_17 + 1)) (lv' := [(3, .int (nI (i_17 + 1))), (0, .ref (ad 30 0)), (1, .int air), (2, .int fall)]) hx hb dX4_passOne_78 hl (k := 3) rfl (nI_add i_17 1) (by decide) rfl (fun ls hl => ?_)
              refine lv_goto (tgt := 67) hx hb dX4_passOne_81 (by decide) ?_
              exact ih (i_17 + 1) (by omega) H locs ls (by have hF : x_89 = pa4 x air fall (i_17 + 1) := (by subst ex_90 ex_86; exact (pa4_s _ _ _ _).symm); rw [← hF]; exact hM) hS (lv_sub hl [1, 2, 3, 0] (by subst ex_90 ex_86; rfl))
          rw [← ex_15] at hM
          exact L_17 (25) 0 (by omega) H locs ls hM hS (lv_sub hl [1, 2, 3, 0] rfl)
        | succ n ih =>
          intro i_12 hi H locs ls hM hS hl 
          have hlt_i_12 : i_12 < 125 := by omega
          obtain ⟨x_94, ex_95⟩ : ∃ z : St, pa3 x air fall i_12 = z := ⟨_, rfl⟩
          rw [ex_95] at hM
          refine lv_iload_n hx hb dX4_passOne_48 rfl (lv_at hl 3 rfl) ?_
          refine lv_bipush (v := 125) hx hb dX4_passOne_49 (by decide) ?_
          refine lv_icmp_ge (tgt := 65) hx hb dX4_passOne_51 (by decide) (fun c9 => absurd c9 (nI_ge (a := i_12) (b := 125) (by omega) (by decide))) (fun _ => ?_)
          refine lv_aload_n hx hb dX4_passOne_54 rfl (lv_at hl 0 rfl) ?_
          refine lv_iload_n hx hb dX4_passOne_55 rfl (lv_at hl 3 rfl) ?_
          refine m_cpv (m_rV (As := [.int (nI i_12)]) (rest := []) hcf (k_X4_sink l g A ad x_94 i_12 (by omega)) (cwV 1 hts (lw_V q1085 q1087 qs22 q41 q1088) rfl rfl rfl (by decide +kernel) ⟨Nat.le_of_ble_eq_true rfl, Nat.le_of_ble_eq_true rfl⟩) hE hA hM hS 30 0 (mwM_o g ad _) (ci := 1) rfl rfl hl.1 rfl (Nat.le_of_ble_eq_true rfl) dX4_passOne_56 ⟨Nat.le_of_ble_eq_true rfl, Nat.le_of_ble_eq_true rfl⟩) hS (fun H locs hM hS => ?_)
          obtain ⟨x_98, ex_99⟩ : ∃ z : St, sinF x_94 i_12 = z := ⟨_, rfl⟩
          rw [ex_99] at hM
          refine lv_iinc (v := nI (i_12 + 1)) (lv' := [(3, .int (nI (i_12 + 1))), (0, .ref (ad 30 0)), (1, .int air), (2, .int fall)]) hx hb dX4_passOne_59 hl (k := 3) rfl (nI_add i_12 1) (by decide) rfl (fun ls hl => ?_)
          refine lv_goto (tgt := 48) hx hb dX4_passOne_62 (by decide) ?_
          exact ih (i_12 + 1) (by omega) H locs ls (by have hF : x_98 = pa3 x air fall (i_12 + 1) := (by subst ex_99 ex_95; exact (pa3_s _ _ _ _).symm); rw [← hF]; exact hM) hS (lv_sub hl [1, 2, 3, 0] (by subst ex_99 ex_95; rfl))
      rw [← ex_9, ← ex_5] at hM
      exact L_12 (125) 0 (by omega) H locs ls hM hS (lv_sub hl [1, 2, 3, 0] rfl)
    | succ n ih =>
      intro i_2 hi H locs ls hM hS hl 
      have hlt_i_2 : i_2 < 25 := by omega
      obtain ⟨x_103, ex_104⟩ : ∃ z : St, pa1 x air fall i_2 = z := ⟨_, rfl⟩
      rw [ex_104] at hM
      refine lv_iload_n hx hb dX4_passOne_2 rfl (lv_at hl 3 rfl) ?_
      refine lv_bipush (v := 25) hx hb dX4_passOne_3 (by decide) ?_
      refine lv_icmp_ge (tgt := 41) hx hb dX4_passOne_5 (by decide) (fun c9 => absurd c9 (nI_ge (a := i_2) (b := 25) (by omega) (by decide))) (fun _ => ?_)
      refine lv_aload_n hx hb dX4_passOne_8 rfl (lv_at hl 0 rfl) ?_
      refine mm_get hcf hE hM 4 (by decide) q940 rfl rfl dX4_passOne_9 ?_
      refine lv_iload_n hx hb dX4_passOne_12 rfl (lv_at hl 3 rfl) ?_
      refine lv_iload_n hx hb dX4_passOne_13 rfl (lv_at hl 1 rfl) ?_
      have J_111 : ∀ (H : Heap) (locs : List Loc) (v_109 : Int32), mW g.1 A (mwM g ad x_103) H → va_S A s.heap H locs → ((if 0 ≤ air then 0 else (lesF 9 ((x_103.1 4 i_2) + fall))) = v_109) → W p l e rm_X4_passOne s m args below meth c H locs 0 0 Q (F0 m 34 ls [.int v_109, .int (nI i_2), .ref (ad 31 4)]) := by
        intro H locs v_109 hM hS ev_110
        refine mm_ast hcf hE hM hS 4 rfl (by decide) i_2 (by show _ < 25; omega) rfl dX4_passOne_34 (fun x_112 H locs ex_113 hM hS => ?_)
        refine lv_iinc (v := nI (i_2 + 1)) (lv' := [(3, .int (nI (i_2 + 1))), (0, .ref (ad 30 0)), (1, .int air), (2, .int fall)]) hx hb dX4_passOne_35 hl (k := 3) rfl (nI_add i_2 1) (by decide) rfl (fun ls hl => ?_)
        refine lv_goto (tgt := 2) hx hb dX4_passOne_38 (by decide) ?_
        exact ih (i_2 + 1) (by omega) H locs ls (by have hF : x_112 = pa1 x air fall (i_2 + 1) := (by subst ex_113 ev_110 ex_104; rfl); rw [← hF]; exact hM) hS (lv_sub hl [1, 2, 3, 0] (by subst ex_113 ev_110 ex_104; rfl))
      refine lv_if_ge (tgt := 33) hx hb dX4_passOne_14 (by decide) (fun c_105 => ?_) (fun c_105 => ?_)
      · refine lv_iconst (v := 0) hx hb dX4_passOne_33 (by decide) ?_
        exact J_111 H locs _ hM hS (by first | rfl | (rw [if_pos c_105]) | (simp only [c_105, if_true, if_false, ite_true, ite_false, not_false_eq_true, reduceIte]))
      · refine lv_bipush (v := 9) hx hb dX4_passOne_17 (by decide) ?_
        refine lv_aload_n hx hb dX4_passOne_19 rfl (lv_at hl 0 rfl) ?_
        refine mm_get hcf hE hM 4 (by decide) q940 rfl rfl dX4_passOne_20 ?_
        refine lv_iload_n hx hb dX4_passOne_23 rfl (lv_at hl 3 rfl) ?_
        refine mm_ald hcf hE hM 4 rfl (by decide) i_2 (by show _ < 25; omega) rfl dX4_passOne_24 ?_
        refine lv_iload_n hx hb dX4_passOne_25 rfl (lv_at hl 2 rfl) ?_
        refine lv_iadd hx hb dX4_passOne_26 ?_
        refine m_cpi (m_rS (As := [.int 9, .int ((x_103.1 4 i_2) + fall)]) (rest := [.int (nI i_2), .ref (ad 31 4)]) hcf (k_X4_lesser l g A (mwM g ad x_103) 9 ((x_103.1 4 i_2) + fall)) (va_cwS 2 hts (lw_S q1063 q1064 q41 q1065) rfl rfl rfl (by decide +kernel) ⟨Nat.le_of_ble_eq_true rfl, Nat.le_of_ble_eq_true rfl⟩) hE hA hM hS rfl hl.1 rfl (Nat.le_of_ble_eq_true rfl) dX4_passOne_27 ⟨Nat.le_of_ble_eq_true rfl, Nat.le_of_ble_eq_true rfl⟩) hS (fun H locs hM hS => ?_)
        refine lv_goto (tgt := 34) hx hb dX4_passOne_30 (by decide) ?_
        exact J_111 H locs _ hM hS (by first | rfl | (rw [if_neg c_105]) | (simp only [c_105, if_true, if_false, ite_true, ite_false, not_false_eq_true, reduceIte]))
  exact L_2 (25) 0 (by omega) H locs ls hM hS (lv_sub hl [1, 2, 3, 0] rfl)
