/-! the land's constructor -/
set_option maxRecDepth 100000
def ad00 (o r9 l09 l19 l29 g09 g19 g29 g39 : Nat) : Nat → Nat → Nat := fun k n => if k = 0 then o else if k = 1 then r9 else if k = 5 then (if n = 0 then l09 else if n = 1 then l19 else l29) else (if n = 0 then g09 else if n = 1 then g19 else if n = 2 then g29 else g39)
theorem cGas_0 : cGas cK0 = fun _ => 0 := by
  funext j
  unfold cGas
  split <;> rfl
theorem cCame_0 : cCame cK0 = fun _ => 0 := by
  funext j
  unfold cCame
  split <;> rfl
theorem cwP_0 {D : va_G} {A : Nat → Prop} {g : GG} {o r9 l09 l19 l29 g09 g19 g29 g39 : Nat} {H : Heap} (h : mW D A (mUp (mUp (mUp (mUp (mUp (mUp (mUp (mUp (mUp (mNil) 0 0 (o, .inr (0, [.ref r9, .ref l09, .ref l19, .ref l29, .ref g09, .ref g19, .long 0, .int 0, .ref g29, .ref g39]))) 1 0 (r9, .inl (g.2.1 3, 25, .inr (.inr (.inr (.inr (fun _ => none))))))) 5 0 (l09, .inr (8, [.int 0, .ref (g.2.2.2 3), .int 0]))) 5 1 (l19, .inr (8, [.int 0, .ref (g.2.2.2 3), .int 0]))) 5 2 (l29, .inr (8, [.int 0, .ref (g.2.2.2 3), .int 0]))) 11 0 (g09, .inl (g.2.1 1, 2, .inr (.inl (fun _ => 0))))) 11 1 (g19, .inl (g.2.1 1, 3, .inr (.inl (fun _ => 0))))) 11 2 (g29, .inl (g.2.1 2, 25, .inl (fun _ => 0)))) 11 3 (g39, .inl (g.2.1 0, 25, .inl (fun _ => 0)))) H) : mW D A (cwP g (ad00 o r9 l09 l19 l29 g09 g19 g29 g39) 0) H := by
  refine h.ext (fun j k z hz => ?_)
  by_cases hj11 : 11 < j
  · rw [cp_o (by omega) (by omega) (by omega), cw_ext hj11] at hz
    exact absurd (show (none : Option (Nat × va_E)) = some z from hz) (fun w9 => by cases w9)
  have h12j : j = 0 ∨ j = 1 ∨ j = 2 ∨ j = 3 ∨ j = 4 ∨ j = 5 ∨ j = 6 ∨ j = 7 ∨ j = 8 ∨ j = 9 ∨ j = 10 ∨ j = 11 := by omega
  have n13 : ∀ k, ¬ k < nt cK0 13 0 := fun k h => Nat.not_lt_zero k h
  have n19 : ∀ k, ¬ k < nt cK0 19 0 := fun k h => Nat.not_lt_zero k h
  have n24 : ∀ k, ¬ k < nt cK0 24 0 := fun k h => Nat.not_lt_zero k h
  rcases h12j with rfl | rfl | rfl | rfl | rfl | rfl | rfl | rfl | rfl | rfl | rfl | rfl
  · by_cases hk : k = 0
    · subst hk
      rw [cp_0] at hz
      cases hz
      exact ⟨_, ((mUp_ne _ _ (by omega)).trans ((mUp_ne _ _ (by omega)).trans ((mUp_ne _ _ (by omega)).trans ((mUp_ne _ _ (by omega)).trans ((mUp_ne _ _ (by omega)).trans ((mUp_ne _ _ (by omega)).trans ((mUp_ne _ _ (by omega)).trans ((mUp_ne _ _ (by omega)).trans (mUp_self _ _ _ _))))))))), rfl, fun hv => hv⟩
    · rw [cp_o (by omega) (by omega) (by omega), cwn_0 hk] at hz
      cases hz
  · by_cases hk : k = 0
    · subst hk
      rw [cp_1] at hz
      cases hz
      exact ⟨_, ((mUp_ne _ _ (by omega)).trans ((mUp_ne _ _ (by omega)).trans ((mUp_ne _ _ (by omega)).trans ((mUp_ne _ _ (by omega)).trans ((mUp_ne _ _ (by omega)).trans ((mUp_ne _ _ (by omega)).trans ((mUp_ne _ _ (by omega)).trans (mUp_self _ _ _ _)))))))), rfl, fun hv => va_refs (fun c _ => (if_neg (Nat.not_lt_zero c)).symm) hv⟩
    · rw [cp_o (by omega) (by omega) (by omega), cwn_1 hk] at hz
      cases hz
  · rw [cp_n2 (Nat.not_lt_zero k)] at hz
    cases hz
  · rw [cp_n3 (Nat.not_lt_zero k)] at hz
    cases hz
  · rw [cp_n4 (Nat.not_lt_zero k)] at hz
    cases hz
  · rw [cp_o (by omega) (by omega) (by omega)] at hz
    by_cases hk : k < 3
    · rw [cw_5 hk] at hz
      cases hz
      have : k = 0 ∨ k = 1 ∨ k = 2 := by omega
      rcases this with rfl | rfl | rfl
      · exact ⟨_, ((mUp_ne _ _ (by omega)).trans ((mUp_ne _ _ (by omega)).trans ((mUp_ne _ _ (by omega)).trans ((mUp_ne _ _ (by omega)).trans ((mUp_ne _ _ (by omega)).trans ((mUp_ne _ _ (by omega)).trans (mUp_self _ _ _ _))))))), rfl, fun hv => hv⟩
      · exact ⟨_, ((mUp_ne _ _ (by omega)).trans ((mUp_ne _ _ (by omega)).trans ((mUp_ne _ _ (by omega)).trans ((mUp_ne _ _ (by omega)).trans ((mUp_ne _ _ (by omega)).trans (mUp_self _ _ _ _)))))), rfl, fun hv => hv⟩
      · exact ⟨_, ((mUp_ne _ _ (by omega)).trans ((mUp_ne _ _ (by omega)).trans ((mUp_ne _ _ (by omega)).trans ((mUp_ne _ _ (by omega)).trans (mUp_self _ _ _ _))))), rfl, fun hv => hv⟩
    · rw [cwn_5 hk] at hz
      cases hz
  · rw [cp_o (by omega) (by omega) (by omega), cwn_6 (fun z => z.2 rfl)] at hz
    cases hz
  · rw [cp_o (by omega) (by omega) (by omega), cwn_7 (n13 k)] at hz
    cases hz
  · rw [cp_o (by omega) (by omega) (by omega), cwn_8 (n19 k)] at hz
    cases hz
  · rw [cp_o (by omega) (by omega) (by omega), cwn_9 (n19 k)] at hz
    cases hz
  · rw [cp_o (by omega) (by omega) (by omega), cwn_10 (n24 k)] at hz
    cases hz
  · rw [cp_o (by omega) (by omega) (by omega)] at hz
    by_cases hk : k < 4
    · have : k = 0 ∨ k = 1 ∨ k = 2 ∨ k = 3 := by omega
      rcases this with rfl | rfl | rfl | rfl
      · rw [cw_11a, cGas_0] at hz
        cases hz
        exact ⟨_, ((mUp_ne _ _ (by omega)).trans ((mUp_ne _ _ (by omega)).trans ((mUp_ne _ _ (by omega)).trans (mUp_self _ _ _ _)))), rfl, fun hv => hv⟩
      · rw [cw_11b, cCame_0] at hz
        cases hz
        exact ⟨_, ((mUp_ne _ _ (by omega)).trans ((mUp_ne _ _ (by omega)).trans (mUp_self _ _ _ _))), rfl, fun hv => hv⟩
      · rw [cw_11c] at hz
        cases hz
        exact ⟨_, ((mUp_ne _ _ (by omega)).trans (mUp_self _ _ _ _)), rfl, fun hv => hv⟩
      · rw [cw_11d] at hz
        cases hz
        exact ⟨_, (mUp_self _ _ _ _), rfl, fun hv => hv⟩
    · rw [cwn_11 hk] at hz
      cases hz
theorem cnM_10 {g : GG} {M : MM} {cn q o ra : Nat} {la : Nat → Nat} : cnM g M cn q o ra la 1 0 = M 1 0 := by
  unfold cnM
  rw [mUp_ne _ _ (by omega), mUp_ne _ _ (by omega), mUp_ne _ _ (by omega), mUp_ne _ _ (by omega), mUp_ne _ _ (by omega), mUp_ne _ _ (by omega), mUp_ne _ _ (by omega)]
theorem cnM_2 {g : GG} {M : MM} {cn q o ra : Nat} {la : Nat → Nat} : cnM g M cn q o ra la 2 cn = some (q, .inr (2, [.int (nI cn), .ref ra, .int 100, .int 0, .int 0, .int 2, .int 0, .null, .ref o])) := by
  unfold cnM
  rw [mUp_ne _ _ (by omega), mUp_ne _ _ (by omega), mUp_ne _ _ (by omega), mUp_ne _ _ (by omega), mUp_ne _ _ (by omega), mUp_ne _ _ (by omega), mUp_self]
abbrev rm_X1_init : Room := { frames := 4, cells := 183, slots := 939, locals := 80 }
set_option maxHeartbeats 4000000 in
theorem k_X1_init (l : Launch) (g : GG) (A : Nat → Prop) (o : Nat) : Met l yX1_init (ws_ yX1_init cX1_init 2 none) rm_X1_init (va_Pc [.ref o] (mPre g A (mUp (mNil) 0 0 (o, .inr (0, [.null, .null, .null, .null, .null, .null, .long 0, .int 0, .null, .null]))))) (va_Qv (fun ad : Nat → Nat → Nat => ad 0 0 = o) (fun ad t => mW g.1 A (cwM g ad mNil (cKG cK0)) t.heap) A) 183 939 A := by
  refine m_start RX1 rfl (by decide) (Nat.le_of_ble_eq_true rfl) ?_
  intro p e s m args below meth c hcf hr hlk hnm hE hA H locs hM hS ls hl
  have hx := hcf.1
  have hb := hcf.2.1
  have hml := hcf.2.2.1
  have hown := hcf.2.2.2.1
  have hts := hcf.2.2.2.2
  have hl : lv_has ls 2 [(0, .ref o)] := hl
  generalize hQ : MQ below (va_Qv (fun ad : Nat → Nat → Nat => ad 0 0 = o) (fun ad t => mW g.1 A (cwM g ad mNil (cKG cK0)) t.heap) A) args s 183 939 A = Q
  refine lv_aload_n hx hb dX1_init_0 rfl (lv_at hl 0 rfl) ?_
  refine W.objInit hx hb hown (hts _ q70) (hts _ q71) (hts _ q72) rfl (by rw [hml]; exact hl.1) rfl dX1_init_1 (Nat.le_of_ble_eq_true rfl) (Nat.le_of_ble_eq_true rfl) ?_
  refine W.eq (g2 := F0 m 4 ls []) rfl ?_
  refine lv_aload_n hx hb dX1_init_4 rfl (lv_at hl 0 rfl) ?_
  refine lv_bipush (v := 25) hx hb dX1_init_5 (by decide) ?_
  refine m_newq hx hb hown (hts _ q73) hE.2.2.2.2.1 hE hM hS hA 1 0 ((mUp_ne _ _ (by omega)).trans (rfl)) 3 rfl 25 (by decide) (by decide) (by decide) (Nat.le_of_ble_eq_true rfl) (Nat.le_of_ble_eq_true rfl) dX1_init_7 (fun r_2 H h_r_2 hM hS => ?_)
  refine m_putF hx hb hts in_X1 tyX1 tyX1_ok nmX1 hown hE hM hS 0 0 ((mUp_ne _ _ (by omega)).trans (mUp_self _ _ _ _)) (ci := 0) rfl 0 (by decide) (hts _ q178) (fun _ h9 => h9) rfl hnm rfl (ty := .array (.object "Wakeground$Cell")) (by decide +kernel) rfl rfl (Nat.le_of_ble_eq_true rfl) (M' := mUp (mUp (mNil) 0 0 (o, .inr (0, [.ref r_2, .null, .null, .null, .null, .null, .long 0, .int 0, .null, .null]))) 1 0 (r_2, .inl (g.2.1 3, 25, .inr (.inr (.inr (.inr (fun _ => none))))))) ((mUp_ne _ _ (by omega)).trans (mUp_self _ _ _ _)) (fun j i h9 => mUp_cong (fun j i h9 => (mUp_ne _ _ h9).trans (mUp_ne _ _ h9).symm) j i h9) dX1_init_10 (fun H locs hM hS => ?_)
  refine lv_aload_n hx hb dX1_init_13 rfl (lv_at hl 0 rfl) ?_
  refine m_new hx hb hts in_J2 tyJ2 tyJ2_ok hown (hts _ q75) (hts _ q76) (hts _ q38) hE hM hS hA 5 0 ((mUp_ne _ _ (by omega)).trans ((mUp_ne _ _ (by omega)).trans (rfl))) (ci := 8) rfl (fs := [.int 0, .null, .int 0]) al_fs (Nat.le_of_ble_eq_true rfl) (Nat.le_of_ble_eq_true rfl) dX1_init_14 (fun q_5 H h_q_5 hM hS => ?_)
  refine lv_dup hx hb dX1_init_17 rfl ?_
  refine m_cpv (m_rI (As := []) (rest := [.ref q_5, .ref o]) hcf (k_J2_init l g A (mUp (mUp (mNil) 0 0 (o, .inr (0, [.ref r_2, .null, .null, .null, .null, .null, .long 0, .int 0, .null, .null]))) 1 0 (r_2, .inl (g.2.1 3, 25, .inr (.inr (.inr (.inr (fun _ => none))))))) 5 0 q_5) (cwI 0 hts (lw_meth q79) rfl rfl rfl (hts _ q38) (hts _ q77) (hts _ q78) rfl (by decide +kernel) ⟨Nat.le_of_ble_eq_true rfl, Nat.le_of_ble_eq_true rfl⟩) hE hA hM hS rfl hl.1 rfl (Nat.le_of_ble_eq_true rfl) dX1_init_18 ⟨Nat.le_of_ble_eq_true rfl, Nat.le_of_ble_eq_true rfl⟩) hS (fun H locs hM hS => ?_)
  refine m_putF hx hb hts in_X1 tyX1 tyX1_ok nmX1 hown hE hM hS 0 0 ((mUp_ne _ _ (by omega)).trans ((mUp_ne _ _ (by omega)).trans (mUp_self _ _ _ _))) (ci := 0) rfl 1 (by decide) (hts _ q180) (fun _ h9 => h9) rfl hnm rfl (ty := .object "java/util/ArrayList") (by decide +kernel) rfl rfl (Nat.le_of_ble_eq_true rfl) (M' := mUp (mUp (mUp (mNil) 0 0 (o, .inr (0, [.ref r_2, .ref q_5, .null, .null, .null, .null, .long 0, .int 0, .null, .null]))) 1 0 (r_2, .inl (g.2.1 3, 25, .inr (.inr (.inr (.inr (fun _ => none))))))) 5 0 (q_5, .inr (8, [.int 0, .ref (g.2.2.2 3), .int 0]))) ((mUp_ne _ _ (by omega)).trans ((mUp_ne _ _ (by omega)).trans (mUp_self _ _ _ _))) (fun j i h9 => mUp_cong (fun j i h9 => mUp_cong (fun j i h9 => (mUp_ne _ _ h9).trans (mUp_ne _ _ h9).symm) j i h9) j i h9) dX1_init_21 (fun H locs hM hS => ?_)
  refine lv_aload_n hx hb dX1_init_24 rfl (lv_at hl 0 rfl) ?_
  refine m_new hx hb hts in_J2 tyJ2 tyJ2_ok hown (hts _ q75) (hts _ q76) (hts _ q38) hE hM hS hA 5 1 ((mUp_ne _ _ (by omega)).trans ((mUp_ne _ _ (by omega)).trans ((mUp_ne _ _ (by omega)).trans (rfl)))) (ci := 8) rfl (fs := [.int 0, .null, .int 0]) al_fs (Nat.le_of_ble_eq_true rfl) (Nat.le_of_ble_eq_true rfl) dX1_init_25 (fun q_9 H h_q_9 hM hS => ?_)
  refine lv_dup hx hb dX1_init_28 rfl ?_
  refine m_cpv (m_rI (As := []) (rest := [.ref q_9, .ref o]) hcf (k_J2_init l g A (mUp (mUp (mUp (mNil) 0 0 (o, .inr (0, [.ref r_2, .ref q_5, .null, .null, .null, .null, .long 0, .int 0, .null, .null]))) 1 0 (r_2, .inl (g.2.1 3, 25, .inr (.inr (.inr (.inr (fun _ => none))))))) 5 0 (q_5, .inr (8, [.int 0, .ref (g.2.2.2 3), .int 0]))) 5 1 q_9) (cwI 0 hts (lw_meth q79) rfl rfl rfl (hts _ q38) (hts _ q77) (hts _ q78) rfl (by decide +kernel) ⟨Nat.le_of_ble_eq_true rfl, Nat.le_of_ble_eq_true rfl⟩) hE hA hM hS rfl hl.1 rfl (Nat.le_of_ble_eq_true rfl) dX1_init_29 ⟨Nat.le_of_ble_eq_true rfl, Nat.le_of_ble_eq_true rfl⟩) hS (fun H locs hM hS => ?_)
  refine m_putF hx hb hts in_X1 tyX1 tyX1_ok nmX1 hown hE hM hS 0 0 ((mUp_ne _ _ (by omega)).trans ((mUp_ne _ _ (by omega)).trans ((mUp_ne _ _ (by omega)).trans (mUp_self _ _ _ _)))) (ci := 0) rfl 2 (by decide) (hts _ q181) (fun _ h9 => h9) rfl hnm rfl (ty := .object "java/util/ArrayList") (by decide +kernel) rfl rfl (Nat.le_of_ble_eq_true rfl) (M' := mUp (mUp (mUp (mUp (mNil) 0 0 (o, .inr (0, [.ref r_2, .ref q_5, .ref q_9, .null, .null, .null, .long 0, .int 0, .null, .null]))) 1 0 (r_2, .inl (g.2.1 3, 25, .inr (.inr (.inr (.inr (fun _ => none))))))) 5 0 (q_5, .inr (8, [.int 0, .ref (g.2.2.2 3), .int 0]))) 5 1 (q_9, .inr (8, [.int 0, .ref (g.2.2.2 3), .int 0]))) ((mUp_ne _ _ (by omega)).trans ((mUp_ne _ _ (by omega)).trans ((mUp_ne _ _ (by omega)).trans (mUp_self _ _ _ _)))) (fun j i h9 => mUp_cong (fun j i h9 => mUp_cong (fun j i h9 => mUp_cong (fun j i h9 => (mUp_ne _ _ h9).trans (mUp_ne _ _ h9).symm) j i h9) j i h9) j i h9) dX1_init_32 (fun H locs hM hS => ?_)
  refine lv_aload_n hx hb dX1_init_35 rfl (lv_at hl 0 rfl) ?_
  refine m_new hx hb hts in_J2 tyJ2 tyJ2_ok hown (hts _ q75) (hts _ q76) (hts _ q38) hE hM hS hA 5 2 ((mUp_ne _ _ (by omega)).trans ((mUp_ne _ _ (by omega)).trans ((mUp_ne _ _ (by omega)).trans ((mUp_ne _ _ (by omega)).trans (rfl))))) (ci := 8) rfl (fs := [.int 0, .null, .int 0]) al_fs (Nat.le_of_ble_eq_true rfl) (Nat.le_of_ble_eq_true rfl) dX1_init_36 (fun q_13 H h_q_13 hM hS => ?_)
  refine lv_dup hx hb dX1_init_39 rfl ?_
  refine m_cpv (m_rI (As := []) (rest := [.ref q_13, .ref o]) hcf (k_J2_init l g A (mUp (mUp (mUp (mUp (mNil) 0 0 (o, .inr (0, [.ref r_2, .ref q_5, .ref q_9, .null, .null, .null, .long 0, .int 0, .null, .null]))) 1 0 (r_2, .inl (g.2.1 3, 25, .inr (.inr (.inr (.inr (fun _ => none))))))) 5 0 (q_5, .inr (8, [.int 0, .ref (g.2.2.2 3), .int 0]))) 5 1 (q_9, .inr (8, [.int 0, .ref (g.2.2.2 3), .int 0]))) 5 2 q_13) (cwI 0 hts (lw_meth q79) rfl rfl rfl (hts _ q38) (hts _ q77) (hts _ q78) rfl (by decide +kernel) ⟨Nat.le_of_ble_eq_true rfl, Nat.le_of_ble_eq_true rfl⟩) hE hA hM hS rfl hl.1 rfl (Nat.le_of_ble_eq_true rfl) dX1_init_40 ⟨Nat.le_of_ble_eq_true rfl, Nat.le_of_ble_eq_true rfl⟩) hS (fun H locs hM hS => ?_)
  refine m_putF hx hb hts in_X1 tyX1 tyX1_ok nmX1 hown hE hM hS 0 0 ((mUp_ne _ _ (by omega)).trans ((mUp_ne _ _ (by omega)).trans ((mUp_ne _ _ (by omega)).trans ((mUp_ne _ _ (by omega)).trans (mUp_self _ _ _ _))))) (ci := 0) rfl 3 (by decide) (hts _ q182) (fun _ h9 => h9) rfl hnm rfl (ty := .object "java/util/ArrayList") (by decide +kernel) rfl rfl (Nat.le_of_ble_eq_true rfl) (M' := mUp (mUp (mUp (mUp (mUp (mNil) 0 0 (o, .inr (0, [.ref r_2, .ref q_5, .ref q_9, .ref q_13, .null, .null, .long 0, .int 0, .null, .null]))) 1 0 (r_2, .inl (g.2.1 3, 25, .inr (.inr (.inr (.inr (fun _ => none))))))) 5 0 (q_5, .inr (8, [.int 0, .ref (g.2.2.2 3), .int 0]))) 5 1 (q_9, .inr (8, [.int 0, .ref (g.2.2.2 3), .int 0]))) 5 2 (q_13, .inr (8, [.int 0, .ref (g.2.2.2 3), .int 0]))) ((mUp_ne _ _ (by omega)).trans ((mUp_ne _ _ (by omega)).trans ((mUp_ne _ _ (by omega)).trans ((mUp_ne _ _ (by omega)).trans (mUp_self _ _ _ _))))) (fun j i h9 => mUp_cong (fun j i h9 => mUp_cong (fun j i h9 => mUp_cong (fun j i h9 => mUp_cong (fun j i h9 => (mUp_ne _ _ h9).trans (mUp_ne _ _ h9).symm) j i h9) j i h9) j i h9) j i h9) dX1_init_43 (fun H locs hM hS => ?_)
  refine lv_aload_n hx hb dX1_init_46 rfl (lv_at hl 0 rfl) ?_
  refine lv_iconst (v := 2) hx hb dX1_init_47 (by decide) ?_
  refine m_newa (atype := .long) (ty := .long) hx hb (hts _ q133) rfl hE hM hS hA 11 0 ((mUp_ne _ _ (by omega)).trans ((mUp_ne _ _ (by omega)).trans ((mUp_ne _ _ (by omega)).trans ((mUp_ne _ _ (by omega)).trans ((mUp_ne _ _ (by omega)).trans (rfl)))))) 1 (cA := g.2.1 1) rfl (fun C h9 => by cases h9) 2 (a0 := (2, .inr (.inl (fun _ => 0)))) rfl (by decide) (by decide) (Nat.le_of_ble_eq_true rfl) (Nat.le_of_ble_eq_true rfl) (Nat.le_of_ble_eq_true rfl) dX1_init_48 (fun r_17 H h_r_17 hM hS => ?_)
  refine m_putF hx hb hts in_X1 tyX1 tyX1_ok nmX1 hown hE hM hS 0 0 ((mUp_ne _ _ (by omega)).trans ((mUp_ne _ _ (by omega)).trans ((mUp_ne _ _ (by omega)).trans ((mUp_ne _ _ (by omega)).trans ((mUp_ne _ _ (by omega)).trans (mUp_self _ _ _ _)))))) (ci := 0) rfl 4 (by decide) (hts _ q183) (fun _ h9 => h9) rfl hnm rfl (ty := .array .long) (by decide +kernel) rfl rfl (Nat.le_of_ble_eq_true rfl) (M' := mUp (mUp (mUp (mUp (mUp (mUp (mNil) 0 0 (o, .inr (0, [.ref r_2, .ref q_5, .ref q_9, .ref q_13, .ref r_17, .null, .long 0, .int 0, .null, .null]))) 1 0 (r_2, .inl (g.2.1 3, 25, .inr (.inr (.inr (.inr (fun _ => none))))))) 5 0 (q_5, .inr (8, [.int 0, .ref (g.2.2.2 3), .int 0]))) 5 1 (q_9, .inr (8, [.int 0, .ref (g.2.2.2 3), .int 0]))) 5 2 (q_13, .inr (8, [.int 0, .ref (g.2.2.2 3), .int 0]))) 11 0 (r_17, .inl (g.2.1 1, 2, .inr (.inl (fun _ => 0))))) ((mUp_ne _ _ (by omega)).trans ((mUp_ne _ _ (by omega)).trans ((mUp_ne _ _ (by omega)).trans ((mUp_ne _ _ (by omega)).trans ((mUp_ne _ _ (by omega)).trans (mUp_self _ _ _ _)))))) (fun j i h9 => mUp_cong (fun j i h9 => mUp_cong (fun j i h9 => mUp_cong (fun j i h9 => mUp_cong (fun j i h9 => mUp_cong (fun j i h9 => (mUp_ne _ _ h9).trans (mUp_ne _ _ h9).symm) j i h9) j i h9) j i h9) j i h9) j i h9) dX1_init_50 (fun H locs hM hS => ?_)
  refine lv_aload_n hx hb dX1_init_53 rfl (lv_at hl 0 rfl) ?_
  refine lv_iconst (v := 3) hx hb dX1_init_54 (by decide) ?_
  refine m_newa (atype := .long) (ty := .long) hx hb (hts _ q133) rfl hE hM hS hA 11 1 ((mUp_ne _ _ (by omega)).trans ((mUp_ne _ _ (by omega)).trans ((mUp_ne _ _ (by omega)).trans ((mUp_ne _ _ (by omega)).trans ((mUp_ne _ _ (by omega)).trans ((mUp_ne _ _ (by omega)).trans (rfl))))))) 1 (cA := g.2.1 1) rfl (fun C h9 => by cases h9) 3 (a0 := (3, .inr (.inl (fun _ => 0)))) rfl (by decide) (by decide) (Nat.le_of_ble_eq_true rfl) (Nat.le_of_ble_eq_true rfl) (Nat.le_of_ble_eq_true rfl) dX1_init_55 (fun r_20 H h_r_20 hM hS => ?_)
  refine m_putF hx hb hts in_X1 tyX1 tyX1_ok nmX1 hown hE hM hS 0 0 ((mUp_ne _ _ (by omega)).trans ((mUp_ne _ _ (by omega)).trans ((mUp_ne _ _ (by omega)).trans ((mUp_ne _ _ (by omega)).trans ((mUp_ne _ _ (by omega)).trans ((mUp_ne _ _ (by omega)).trans (mUp_self _ _ _ _))))))) (ci := 0) rfl 5 (by decide) (hts _ q185) (fun _ h9 => h9) rfl hnm rfl (ty := .array .long) (by decide +kernel) rfl rfl (Nat.le_of_ble_eq_true rfl) (M' := mUp (mUp (mUp (mUp (mUp (mUp (mUp (mNil) 0 0 (o, .inr (0, [.ref r_2, .ref q_5, .ref q_9, .ref q_13, .ref r_17, .ref r_20, .long 0, .int 0, .null, .null]))) 1 0 (r_2, .inl (g.2.1 3, 25, .inr (.inr (.inr (.inr (fun _ => none))))))) 5 0 (q_5, .inr (8, [.int 0, .ref (g.2.2.2 3), .int 0]))) 5 1 (q_9, .inr (8, [.int 0, .ref (g.2.2.2 3), .int 0]))) 5 2 (q_13, .inr (8, [.int 0, .ref (g.2.2.2 3), .int 0]))) 11 0 (r_17, .inl (g.2.1 1, 2, .inr (.inl (fun _ => 0))))) 11 1 (r_20, .inl (g.2.1 1, 3, .inr (.inl (fun _ => 0))))) ((mUp_ne _ _ (by omega)).trans ((mUp_ne _ _ (by omega)).trans ((mUp_ne _ _ (by omega)).trans ((mUp_ne _ _ (by omega)).trans ((mUp_ne _ _ (by omega)).trans ((mUp_ne _ _ (by omega)).trans (mUp_self _ _ _ _))))))) (fun j i h9 => mUp_cong (fun j i h9 => mUp_cong (fun j i h9 => mUp_cong (fun j i h9 => mUp_cong (fun j i h9 => mUp_cong (fun j i h9 => mUp_cong (fun j i h9 => (mUp_ne _ _ h9).trans (mUp_ne _ _ h9).symm) j i h9) j i h9) j i h9) j i h9) j i h9) j i h9) dX1_init_57 (fun H locs hM hS => ?_)
  refine lv_aload_n hx hb dX1_init_60 rfl (lv_at hl 0 rfl) ?_
  refine lv_bipush (v := 25) hx hb dX1_init_61 (by decide) ?_
  refine m_newa (atype := .boolean) (ty := .boolean) hx hb (hts _ q134) rfl hE hM hS hA 11 2 ((mUp_ne _ _ (by omega)).trans ((mUp_ne _ _ (by omega)).trans ((mUp_ne _ _ (by omega)).trans ((mUp_ne _ _ (by omega)).trans ((mUp_ne _ _ (by omega)).trans ((mUp_ne _ _ (by omega)).trans ((mUp_ne _ _ (by omega)).trans (rfl)))))))) 2 (cA := g.2.1 2) rfl (fun C h9 => by cases h9) 25 (a0 := (25, .inl (fun _ => 0))) rfl (by decide) (by decide) (Nat.le_of_ble_eq_true rfl) (Nat.le_of_ble_eq_true rfl) (Nat.le_of_ble_eq_true rfl) dX1_init_63 (fun r_23 H h_r_23 hM hS => ?_)
  refine m_putF hx hb hts in_X1 tyX1 tyX1_ok nmX1 hown hE hM hS 0 0 ((mUp_ne _ _ (by omega)).trans ((mUp_ne _ _ (by omega)).trans ((mUp_ne _ _ (by omega)).trans ((mUp_ne _ _ (by omega)).trans ((mUp_ne _ _ (by omega)).trans ((mUp_ne _ _ (by omega)).trans ((mUp_ne _ _ (by omega)).trans (mUp_self _ _ _ _)))))))) (ci := 0) rfl 8 (by decide) (hts _ q188) (fun _ h9 => h9) rfl hnm rfl (ty := .array .boolean) (by decide +kernel) rfl rfl (Nat.le_of_ble_eq_true rfl) (M' := mUp (mUp (mUp (mUp (mUp (mUp (mUp (mUp (mNil) 0 0 (o, .inr (0, [.ref r_2, .ref q_5, .ref q_9, .ref q_13, .ref r_17, .ref r_20, .long 0, .int 0, .ref r_23, .null]))) 1 0 (r_2, .inl (g.2.1 3, 25, .inr (.inr (.inr (.inr (fun _ => none))))))) 5 0 (q_5, .inr (8, [.int 0, .ref (g.2.2.2 3), .int 0]))) 5 1 (q_9, .inr (8, [.int 0, .ref (g.2.2.2 3), .int 0]))) 5 2 (q_13, .inr (8, [.int 0, .ref (g.2.2.2 3), .int 0]))) 11 0 (r_17, .inl (g.2.1 1, 2, .inr (.inl (fun _ => 0))))) 11 1 (r_20, .inl (g.2.1 1, 3, .inr (.inl (fun _ => 0))))) 11 2 (r_23, .inl (g.2.1 2, 25, .inl (fun _ => 0)))) ((mUp_ne _ _ (by omega)).trans ((mUp_ne _ _ (by omega)).trans ((mUp_ne _ _ (by omega)).trans ((mUp_ne _ _ (by omega)).trans ((mUp_ne _ _ (by omega)).trans ((mUp_ne _ _ (by omega)).trans ((mUp_ne _ _ (by omega)).trans (mUp_self _ _ _ _)))))))) (fun j i h9 => mUp_cong (fun j i h9 => mUp_cong (fun j i h9 => mUp_cong (fun j i h9 => mUp_cong (fun j i h9 => mUp_cong (fun j i h9 => mUp_cong (fun j i h9 => mUp_cong (fun j i h9 => (mUp_ne _ _ h9).trans (mUp_ne _ _ h9).symm) j i h9) j i h9) j i h9) j i h9) j i h9) j i h9) j i h9) dX1_init_65 (fun H locs hM hS => ?_)
  refine lv_aload_n hx hb dX1_init_68 rfl (lv_at hl 0 rfl) ?_
  refine lv_bipush (v := 25) hx hb dX1_init_69 (by decide) ?_
  refine m_newa (atype := .int) (ty := .int) hx hb (hts _ q135) rfl hE hM hS hA 11 3 ((mUp_ne _ _ (by omega)).trans ((mUp_ne _ _ (by omega)).trans ((mUp_ne _ _ (by omega)).trans ((mUp_ne _ _ (by omega)).trans ((mUp_ne _ _ (by omega)).trans ((mUp_ne _ _ (by omega)).trans ((mUp_ne _ _ (by omega)).trans ((mUp_ne _ _ (by omega)).trans (rfl))))))))) 0 (cA := g.2.1 0) rfl (fun C h9 => by cases h9) 25 (a0 := (25, .inl (fun _ => 0))) rfl (by decide) (by decide) (Nat.le_of_ble_eq_true rfl) (Nat.le_of_ble_eq_true rfl) (Nat.le_of_ble_eq_true rfl) dX1_init_71 (fun r_26 H h_r_26 hM hS => ?_)
  refine m_putF hx hb hts in_X1 tyX1 tyX1_ok nmX1 hown hE hM hS 0 0 ((mUp_ne _ _ (by omega)).trans ((mUp_ne _ _ (by omega)).trans ((mUp_ne _ _ (by omega)).trans ((mUp_ne _ _ (by omega)).trans ((mUp_ne _ _ (by omega)).trans ((mUp_ne _ _ (by omega)).trans ((mUp_ne _ _ (by omega)).trans ((mUp_ne _ _ (by omega)).trans (mUp_self _ _ _ _))))))))) (ci := 0) rfl 9 (by decide) (hts _ q189) (fun _ h9 => h9) rfl hnm rfl (ty := .array .int) (by decide +kernel) rfl rfl (Nat.le_of_ble_eq_true rfl) (M' := mUp (mUp (mUp (mUp (mUp (mUp (mUp (mUp (mUp (mNil) 0 0 (o, .inr (0, [.ref r_2, .ref q_5, .ref q_9, .ref q_13, .ref r_17, .ref r_20, .long 0, .int 0, .ref r_23, .ref r_26]))) 1 0 (r_2, .inl (g.2.1 3, 25, .inr (.inr (.inr (.inr (fun _ => none))))))) 5 0 (q_5, .inr (8, [.int 0, .ref (g.2.2.2 3), .int 0]))) 5 1 (q_9, .inr (8, [.int 0, .ref (g.2.2.2 3), .int 0]))) 5 2 (q_13, .inr (8, [.int 0, .ref (g.2.2.2 3), .int 0]))) 11 0 (r_17, .inl (g.2.1 1, 2, .inr (.inl (fun _ => 0))))) 11 1 (r_20, .inl (g.2.1 1, 3, .inr (.inl (fun _ => 0))))) 11 2 (r_23, .inl (g.2.1 2, 25, .inl (fun _ => 0)))) 11 3 (r_26, .inl (g.2.1 0, 25, .inl (fun _ => 0)))) ((mUp_ne _ _ (by omega)).trans ((mUp_ne _ _ (by omega)).trans ((mUp_ne _ _ (by omega)).trans ((mUp_ne _ _ (by omega)).trans ((mUp_ne _ _ (by omega)).trans ((mUp_ne _ _ (by omega)).trans ((mUp_ne _ _ (by omega)).trans ((mUp_ne _ _ (by omega)).trans (mUp_self _ _ _ _))))))))) (fun j i h9 => mUp_cong (fun j i h9 => mUp_cong (fun j i h9 => mUp_cong (fun j i h9 => mUp_cong (fun j i h9 => mUp_cong (fun j i h9 => mUp_cong (fun j i h9 => mUp_cong (fun j i h9 => mUp_cong (fun j i h9 => (mUp_ne _ _ h9).trans (mUp_ne _ _ h9).symm) j i h9) j i h9) j i h9) j i h9) j i h9) j i h9) j i h9) j i h9) dX1_init_73 (fun H locs hM hS => ?_)
  refine lv_iconst (v := 0) hx hb dX1_init_76 (by decide) ?_
  refine lv_istore_n (lv' := [(1, .int 0), (0, .ref o)]) hx hb dX1_init_77 rfl hl (by decide) rfl (fun ls hl => ?_)
  have hM := cwP_0 hM
  obtain ⟨ad, had⟩ : ∃ z, ad00 o r_2 q_5 q_9 q_13 r_17 r_20 r_23 r_26 = z := ⟨_, rfl⟩
  rw [had] at hM
  have h00 : ad 0 0 = o := by rw [← had]; rfl
  have LL : ∀ (n9 i : Nat) (ad : Nat → Nat → Nat), i + n9 = 25 → ad 0 0 = o → ∀ (H : Heap) (locs : List Loc) (ls : Array Slot), mW g.1 A (cwP g ad i) H → va_S A s.heap H locs → lv_has ls 2 [(0, .ref o), (1, .int (nI i))] → W p l e rm_X1_init s m args below meth c H locs (8 + 7 * i) (89 + 34 * i) Q (F0 m 78 ls []) := by
    intro n9
    induction n9 with
    | zero =>
      intro i ad hi h00 H locs ls hM9 hS9 hl9
      subst h00
      have hM := hM9
      have hS := hS9
      have hl := hl9
      have hi : 25 = i := by omega
      subst hi
      have hM := cwP_25 hM
      obtain ⟨x9, hx9⟩ : ∃ z : St, cK0 = z := ⟨_, rfl⟩
      rw [hx9] at hM
      refine lv_iload_n hx hb dX1_init_78 rfl (lv_at hl 1 rfl) ?_
      refine lv_bipush (v := 25) hx hb dX1_init_79 (by decide) ?_
      refine lv_icmp_ge (tgt := 105) hx hb dX1_init_81 (by decide) (fun _ => ?_) (fun c9 => absurd (by decide) c9)
      refine lv_iconst (v := 0) hx hb dX1_init_105 (by decide) ?_
      refine lv_istore_n (lv' := [(1, .int 0), (0, .ref (ad 0 0))]) hx hb dX1_init_106 rfl hl (by decide) rfl (fun ls hl => ?_)
      refine lv_iload_n hx hb dX1_init_107 rfl (lv_at hl 0 rfl) ?_
      refine lv_aload_n hx hb dX1_init_108 rfl (lv_at hl 1 rfl) ?_
      refine m_get hx hb hts in_X1 hown hE hM 0 0 cw_0 (ci := 0) rfl 5 (by decide) (hts _ q185) (fun _ h9 => h9) rfl dX1_init_109 ?_
      refine m_alen hx hb hE hM 11 1 1 cw_11b rfl (v := 3) rfl dX1_init_112 ?_
      refine lv_icmp_ge (tgt := 133) hx hb dX1_init_113 (by decide) (fun c9 => absurd c9 (by decide)) (fun _ => ?_)
      refine lv_aload_n hx hb dX1_init_116 rfl (lv_at hl 1 rfl) ?_
      refine m_get hx hb hts in_X1 hown hE hM 0 0 cw_0 (ci := 0) rfl 5 (by decide) (hts _ q185) (fun _ h9 => h9) rfl dX1_init_117 ?_
      refine lv_iload_n hx hb dX1_init_120 rfl (lv_at hl 0 rfl) ?_
      refine lv_aload_n hx hb dX1_init_121 rfl (lv_at hl 1 rfl) ?_
      refine lv_iload_n hx hb dX1_init_122 rfl (lv_at hl 0 rfl) ?_
      refine m_cpl (m_rV (As := [.int 0]) (rest := [.int 0, .ref (ad 11 1)]) hcf (k_X1_inLand l g A ad mNil x9 0) (cwV 1 hts (lw_V q173 q175 qs0 q35 q176) rfl rfl rfl (by decide +kernel) ⟨Nat.le_of_ble_eq_true rfl, Nat.le_of_ble_eq_true rfl⟩) hE hA hM hS 0 0 cw_0 (ci := 0) rfl rfl hl.1 rfl (Nat.le_of_ble_eq_true rfl) dX1_init_123 ⟨(by show _ ≤ 183; omega), (by show _ ≤ 939; omega)⟩) hS (fun H locs hM hS => ?_)
      refine ca_st hcf hE hM hS 0 (by omega) rfl dX1_init_126 (fun x_703 H locs ex_704 hM hS => ?_)
      refine lv_iinc (v := 1) (lv' := [(1, .int 1), (0, .ref (ad 0 0))]) hx hb dX1_init_127 hl (k := 0) rfl ((by decide)) (by decide) rfl (fun ls hl => ?_)
      refine lv_goto (tgt := 107) hx hb dX1_init_130 (by decide) ?_
      refine lv_iload_n hx hb dX1_init_107 rfl (lv_at hl 0 rfl) ?_
      refine lv_aload_n hx hb dX1_init_108 rfl (lv_at hl 1 rfl) ?_
      refine m_get hx hb hts in_X1 hown hE hM 0 0 cw_0 (ci := 0) rfl 5 (by decide) (hts _ q185) (fun _ h9 => h9) rfl dX1_init_109 ?_
      refine m_alen hx hb hE hM 11 1 1 cw_11b rfl (v := 3) rfl dX1_init_112 ?_
      refine lv_icmp_ge (tgt := 133) hx hb dX1_init_113 (by decide) (fun c9 => absurd c9 (by decide)) (fun _ => ?_)
      refine lv_aload_n hx hb dX1_init_116 rfl (lv_at hl 1 rfl) ?_
      refine m_get hx hb hts in_X1 hown hE hM 0 0 cw_0 (ci := 0) rfl 5 (by decide) (hts _ q185) (fun _ h9 => h9) rfl dX1_init_117 ?_
      refine lv_iload_n hx hb dX1_init_120 rfl (lv_at hl 0 rfl) ?_
      refine lv_aload_n hx hb dX1_init_121 rfl (lv_at hl 1 rfl) ?_
      refine lv_iload_n hx hb dX1_init_122 rfl (lv_at hl 0 rfl) ?_
      refine m_cpl (m_rV (As := [.int 1]) (rest := [.int 1, .ref (ad 11 1)]) hcf (k_X1_inLand l g A ad mNil x_703 1) (cwV 1 hts (lw_V q173 q175 qs0 q35 q176) rfl rfl rfl (by decide +kernel) ⟨Nat.le_of_ble_eq_true rfl, Nat.le_of_ble_eq_true rfl⟩) hE hA hM hS 0 0 cw_0 (ci := 0) rfl rfl hl.1 rfl (Nat.le_of_ble_eq_true rfl) dX1_init_123 ⟨(by show _ ≤ 183; omega), (by show _ ≤ 939; omega)⟩) hS (fun H locs hM hS => ?_)
      refine ca_st hcf hE hM hS 1 (by omega) rfl dX1_init_126 (fun x_707 H locs ex_708 hM hS => ?_)
      refine lv_iinc (v := 2) (lv' := [(1, .int 2), (0, .ref (ad 0 0))]) hx hb dX1_init_127 hl (k := 0) rfl ((by decide)) (by decide) rfl (fun ls hl => ?_)
      refine lv_goto (tgt := 107) hx hb dX1_init_130 (by decide) ?_
      refine lv_iload_n hx hb dX1_init_107 rfl (lv_at hl 0 rfl) ?_
      refine lv_aload_n hx hb dX1_init_108 rfl (lv_at hl 1 rfl) ?_
      refine m_get hx hb hts in_X1 hown hE hM 0 0 cw_0 (ci := 0) rfl 5 (by decide) (hts _ q185) (fun _ h9 => h9) rfl dX1_init_109 ?_
      refine m_alen hx hb hE hM 11 1 1 cw_11b rfl (v := 3) rfl dX1_init_112 ?_
      refine lv_icmp_ge (tgt := 133) hx hb dX1_init_113 (by decide) (fun c9 => absurd c9 (by decide)) (fun _ => ?_)
      refine lv_aload_n hx hb dX1_init_116 rfl (lv_at hl 1 rfl) ?_
      refine m_get hx hb hts in_X1 hown hE hM 0 0 cw_0 (ci := 0) rfl 5 (by decide) (hts _ q185) (fun _ h9 => h9) rfl dX1_init_117 ?_
      refine lv_iload_n hx hb dX1_init_120 rfl (lv_at hl 0 rfl) ?_
      refine lv_aload_n hx hb dX1_init_121 rfl (lv_at hl 1 rfl) ?_
      refine lv_iload_n hx hb dX1_init_122 rfl (lv_at hl 0 rfl) ?_
      refine m_cpl (m_rV (As := [.int 2]) (rest := [.int 2, .ref (ad 11 1)]) hcf (k_X1_inLand l g A ad mNil x_707 2) (cwV 1 hts (lw_V q173 q175 qs0 q35 q176) rfl rfl rfl (by decide +kernel) ⟨Nat.le_of_ble_eq_true rfl, Nat.le_of_ble_eq_true rfl⟩) hE hA hM hS 0 0 cw_0 (ci := 0) rfl rfl hl.1 rfl (Nat.le_of_ble_eq_true rfl) dX1_init_123 ⟨(by show _ ≤ 183; omega), (by show _ ≤ 939; omega)⟩) hS (fun H locs hM hS => ?_)
      refine ca_st hcf hE hM hS 2 (by omega) rfl dX1_init_126 (fun x_711 H locs ex_712 hM hS => ?_)
      refine lv_iinc (v := 3) (lv' := [(1, .int 3), (0, .ref (ad 0 0))]) hx hb dX1_init_127 hl (k := 0) rfl ((by decide)) (by decide) rfl (fun ls hl => ?_)
      refine lv_goto (tgt := 107) hx hb dX1_init_130 (by decide) ?_
      refine lv_iload_n hx hb dX1_init_107 rfl (lv_at hl 0 rfl) ?_
      refine lv_aload_n hx hb dX1_init_108 rfl (lv_at hl 1 rfl) ?_
      refine m_get hx hb hts in_X1 hown hE hM 0 0 cw_0 (ci := 0) rfl 5 (by decide) (hts _ q185) (fun _ h9 => h9) rfl dX1_init_109 ?_
      refine m_alen hx hb hE hM 11 1 1 cw_11b rfl (v := 3) rfl dX1_init_112 ?_
      refine lv_icmp_ge (tgt := 133) hx hb dX1_init_113 (by decide) (fun _ => ?_) (fun c9 => absurd (by decide) c9)
      rw [← hQ]
      exact m_vret ad hx hb hr hlk (by have hF : x_711 = cKG x9 := (by subst ex_712 ex_708 ex_704; rfl); rw [hF, ← hx9] at hM; exact hM) hS rfl (by first | decide | omega) (by first | decide | omega) dX1_init_133
    | succ n9 ih =>
      intro i ad hi h00 H locs ls hM9 hS9 hl9
      subst h00
      have hM := hM9
      have hS := hS9
      have hl := hl9
      have hi25 : i < 25 := by omega
      refine lv_iload_n hx hb dX1_init_78 rfl (lv_at hl 1 rfl) ?_
      refine lv_bipush (v := 25) hx hb dX1_init_79 (by decide) ?_
      refine lv_icmp_ge (tgt := 105) hx hb dX1_init_81 (by decide) (fun c9 => absurd c9 (nI_ge (a := i) (b := 25) (by omega) (by decide))) (fun _ => ?_)
      refine lv_aload_n hx hb dX1_init_84 rfl (lv_at hl 0 rfl) ?_
      refine m_get hx hb hts in_X1 hown hE hM 0 0 cp_0 (ci := 0) rfl 0 (by decide) (hts _ q178) (fun _ h9 => h9) rfl dX1_init_85 ?_
      refine lv_iload_n hx hb dX1_init_88 rfl (lv_at hl 1 rfl) ?_
      refine m_new hx hb hts in_X2 tyX2 tyX2_ok hown (hts _ q73) (hts _ q101) (hts _ q39) hE hM hS hA 2 i (cp_n2 (Nat.lt_irrefl i)) (ci := 2) rfl (fs := [.int 0, .null, .int 0, .int 0, .int 0, .int 0, .int 0, .null, .null]) ce_fs (by show _ ≤ 183; omega) (by show _ ≤ 939; omega) dX1_init_89 (fun q9 H h_q9 hM hS => ?_)
      refine lv_dup hx hb dX1_init_92 rfl ?_
      refine lv_aload_n hx hb dX1_init_93 rfl (lv_at hl 0 rfl) ?_
      refine lv_iload_n hx hb dX1_init_94 rfl (lv_at hl 1 rfl) ?_
      refine m_cv (m_rI (As := [.ref (ad 0 0), .int (nI i)]) (rest := [.ref q9, .int (nI i), .ref (ad 1 0)]) hcf (k_X2_init l g A (cwP g ad i) i q9 (ad 0 0) (cp_n3 (Nat.lt_irrefl i)) (fun l9 hl9 => cp_n4 (by omega))) (cwI 2 hts (lw_meth q104) rfl rfl rfl (hts _ q39) (hts _ q102) (hts _ q103) rfl (by decide +kernel) ⟨Nat.le_of_ble_eq_true rfl, Nat.le_of_ble_eq_true rfl⟩) hE hA hM hS rfl hl.1 rfl (Nat.le_of_ble_eq_true rfl) dX1_init_95 ⟨(by show _ ≤ 183; omega), (by show _ ≤ 939; omega)⟩) hS (fun u H locs _ hM hS => ?_)
      refine m_aast hx hb hE hM hS 1 0 3 2 i 2 (cnM_10.trans cp_1) rfl cnM_2 rfl i hi25 (by decide) rfl (M' := mUp (cnM g (cwP g ad i) i q9 (ad 0 0) u.1 u.2) 1 0 (ad 1 0, .inl (g.2.1 3, 25, .inr (.inr (.inr (.inr (va_up (fun c => if c < i then some (ad 2 c) else none) i (some q9)))))))) (mUp_self _ _ _ _) (fun j k h9 => mUp_ne _ _ h9) dX1_init_98 (fun H locs hM hS => ?_)
      have hM := cwP_s hi25 hM
      refine lv_iinc (v := nI (i + 1)) (lv' := [(1, .int (nI (i + 1))), (0, .ref (ad 0 0))]) hx hb dX1_init_99 hl (k := 1) rfl (nI_add i 1) (by decide) rfl (fun ls hl => ?_)
      refine lv_goto (tgt := 78) hx hb dX1_init_102 (by decide) ?_
      refine W.widen (k := (8 + 7 * (i + 1))) (n := (89 + 34 * (i + 1))) (by omega) (by omega) ?_
      exact ih (i + 1) _ (by omega) (adC_o (by omega) (by omega) (by omega)) H locs ls hM hS (lv_sub hl [1, 0] rfl)
  exact LL 25 0 ad (by omega) h00 H locs ls hM hS (lv_sub hl [1, 0] rfl)
