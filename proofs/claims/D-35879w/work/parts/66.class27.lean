/-! THE LAW'S START: the land, the reference, the row -/
set_option maxRecDepth 100000
theorem main_fs : ∀ j, j < 10 → defaultValue (tyX1 j) = vp_V [.null, .null, .null, .null, .null, .null, .long 0, .int 0, .null, .null] j := by
  intro j hj
  have h : j = 0 ∨ j = 1 ∨ j = 2 ∨ j = 3 ∨ j = 4 ∨ j = 5 ∨ j = 6 ∨ j = 7 ∨ j = 8 ∨ j = 9 := by omega
  rcases h with rfl | rfl | rfl | rfl | rfl | rfl | rfl | rfl | rfl | rfl <;> rfl
theorem mod_fs : ∀ j, j < 32 → defaultValue (tyX4 j) = vp_V mZ j := by
  intro j hj
  have h : j = 0 ∨ j = 1 ∨ j = 2 ∨ j = 3 ∨ j = 4 ∨ j = 5 ∨ j = 6 ∨ j = 7 ∨ j = 8 ∨ j = 9 ∨ j = 10 ∨ j = 11 ∨ j = 12 ∨ j = 13 ∨ j = 14 ∨ j = 15 ∨ j = 16 ∨ j = 17 ∨ j = 18 ∨ j = 19 ∨ j = 20 ∨ j = 21 ∨ j = 22 ∨ j = 23 ∨ j = 24 ∨ j = 25 ∨ j = 26 ∨ j = 27 ∨ j = 28 ∨ j = 29 ∨ j = 30 ∨ j = 31 := by omega
  rcases h with rfl | rfl | rfl | rfl | rfl | rfl | rfl | rfl | rfl | rfl | rfl | rfl | rfl | rfl | rfl | rfl | rfl | rfl | rfl | rfl | rfl | rfl | rfl | rfl | rfl | rfl | rfl | rfl | rfl | rfl | rfl | rfl <;> rfl
theorem mNil_W {D : va_G} {A : Nat → Prop} {H : Heap} : mW D A mNil H := ⟨fun _ _ _ h => absurd h (by intro z; cases z), fun _ _ _ _ _ _ h => absurd h (by intro z; cases z)⟩
theorem mNil_ap (M : MM) : apart M mNil := fun _ _ _ _ _ _ _ h => by cases h
/-- both worlds as one -/
def bothM (C N : MM) : MM := fun j k => if j ≤ 11 then C j k else N j k
theorem both_W {D : va_G} {A : Nat → Prop} {C N : MM} {H : Heap} (hC : mW D A C H) (hN : mW D A N H) (hap : apart C N) : mW D A (bothM C N) H := by
  refine ⟨fun k n q hq => ?_, fun k n j i p q hp hq e => ?_⟩
  · unfold bothM at hq
    by_cases h : k ≤ 11
    · rw [if_pos h] at hq; exact hC.1 k n q hq
    · rw [if_neg h] at hq; exact hN.1 k n q hq
  · unfold bothM at hp hq
    by_cases h : k ≤ 11 <;> by_cases h2 : j ≤ 11
    · rw [if_pos h] at hp; rw [if_pos h2] at hq; exact hC.2 k n j i p q hp hq e
    · rw [if_pos h] at hp; rw [if_neg h2] at hq; exact absurd e (hap k n j i p q hp hq)
    · rw [if_neg h] at hp; rw [if_pos h2] at hq; exact absurd e.symm (hap j i k n q p hq hp)
    · rw [if_neg h] at hp; rw [if_neg h2] at hq; exact hN.2 k n j i p q hp hq e
theorem cw_mNil {g : GG} {ad : Nat → Nat → Nat} {x : St} {j k : Nat} (h : 11 < j) : cwM g ad mNil x j k = none := cw_ext h
theorem mw_low {g : GG} {ad : Nat → Nat → Nat} {x : St} {j k : Nat} (h : ¬ (j = 30 ∨ j = 31)) : mwM g ad x j k = none := by
  unfold mwM
  rw [if_neg (fun z => h (Or.inl z)), if_neg (fun z => h (Or.inr z))]
theorem law_start {p : Program} {l : Launch} {e : Env} {s : State} {m : MethodId} {args : Array Value} {below : List Frame} {meth : Method} {c : Code} {Q : State → Prop} {H : Heap} {locs : List Loc} {ls : Array Slot} {g : GG} {b L : Nat} {xs : Nat → Int32} {Inv : St → Prop} (hcf : CallFix p m c cL_law 8 s args lw_all "WakegroundLaw") (hE : amb g (fun q => s.heap.size ≤ q) s s.heap) (hag : agr (cKG cK0) iniF) (hI : Inv (mrg (cKG cK0) iniF)) (hS : va_S (fun q => s.heap.size ≤ q) s.heap H locs) (hl : lv_has ls 8 [(0, .ref b)])
    (kk : ∀ (adm : Nat → Nat → Nat) (oa : Nat) (z : St) (ad : Nat → Nat → Nat) (v : Int64) (H : Heap) (locs : List Loc) (ls : Array Slot), Inv z → mW g.1 (fun q => s.heap.size ≤ q) (cwM g ad (Mo g oa v) z) H → mW g.1 (fun q => s.heap.size ≤ q) (mwM g adm z) H → apart (cwM g ad (Mo g oa v) z) (mwM g adm z) → va_S (fun q => s.heap.size ≤ q) s.heap H locs → lv_has ls 8 [(0, .ref b), (1, .ref (ad 0 0)), (2, .ref (adm 30 0)), (3, .ref oa), (4, .int (nI (7 * 0)))] → W p l e room_1 s m args below meth c H locs (300 + 800 * 0) (33000 + 3500 * 0) Q (F0 m 23 ls [])) : W p l e room_1 s m args below meth c H locs 0 0 Q (F0 m 0 ls []) := by
  have hx := hcf.1
  have hb := hcf.2.1
  have hown := hcf.2.2.2.1
  have hts := hcf.2.2.2.2
  have hA0 : ∀ q : Nat, s.heap.size ≤ q → (fun q : Nat => s.heap.size ≤ q) q := fun _ h => h
  have hM : mW g.1 (fun q => s.heap.size ≤ q) mNil H := mNil_W
  refine m_new hx hb hts in_X1 tyX1 tyX1_ok hown (hts _ q65) (hts _ q66) (hts _ q35) hE hM hS hA0 0 0 rfl (ci := 0) rfl (fs := [.null, .null, .null, .null, .null, .null, .long 0, .int 0, .null, .null]) main_fs (Nat.le_of_ble_eq_true rfl) (Nat.le_of_ble_eq_true rfl) dL_law_0 (fun o H _ hM hS => ?_)
  refine lv_dup hx hb dL_law_3 rfl ?_
  refine l_cN (post := fun ad : Nat → Nat → Nat => ad 0 0 = o) (M' := fun ad => cwM g ad mNil (cKG cK0)) (As := []) (rest := [.ref o]) hcf (fun A9 => k_X1_init l g A9 o) (cwI 0 hts (lw_meth q69) rfl rfl rfl (hts _ q35) (hts _ q67) (hts _ q68) rfl (by decide +kernel) ⟨Nat.le_of_ble_eq_true rfl, Nat.le_of_ble_eq_true rfl⟩) hE hA0 hM mNil_W (mNil_ap _) hS rfl hl.1 rfl (Nat.le_of_ble_eq_true rfl) dL_law_4 ⟨Nat.le_of_ble_eq_true rfl, Nat.le_of_ble_eq_true rfl⟩ (fun ad H locs had hM _ _ hS => ?_)
  refine lv_astore_n (lv' := [(1, .ref o), (0, .ref b)]) hx hb dL_law_7 rfl hl (by decide) rfl (fun ls hl => ?_)
  refine m_new hx hb hts in_X4 tyX4 tyX4_ok hown (hts _ q927) (hts _ q928) (hts _ q41) hE hM hS hA0 30 0 (cw_mNil (by decide)) (ci := 1) rfl (fs := mZ) mod_fs (Nat.le_of_ble_eq_true rfl) (Nat.le_of_ble_eq_true rfl) dL_law_8 (fun o4 H _ hM2 hS => ?_)
  have hM : mW g.1 (fun q => s.heap.size ≤ q) (cwM g ad mNil (cKG cK0)) H := hM2.sub (fun k n q hq => by
    by_cases h : k = 30 ∧ n = 0
    · rw [h.1, cw_mNil (by decide)] at hq; cases hq
    · rw [mUp_ne _ _ h]; exact hq)
  have hN : mW g.1 (fun q => s.heap.size ≤ q) (mUp mNil 30 0 (o4, .inr (1, mZ))) H := hM2.sub (fun k n q hq => by
    by_cases h : k = 30 ∧ n = 0
    · obtain ⟨rfl, rfl⟩ := h; rw [mUp_self] at hq ⊢; exact hq
    · rw [mUp_ne _ _ h] at hq; cases hq)
  have hap : apart (mUp mNil 30 0 (o4, .inr (1, mZ))) (cwM g ad mNil (cKG cK0)) := fun k n j i p q hp hq e => by
    by_cases h : k = 30 ∧ n = 0
    · obtain ⟨rfl, rfl⟩ := h
      rw [mUp_self] at hp
      by_cases h2 : j = 30 ∧ i = 0
      · rw [h2.1, cw_mNil (by decide)] at hq; cases hq
      · have h9 := hM2.2 30 0 j i p q (by rw [mUp_self]; exact hp) (by rw [mUp_ne _ _ h2]; exact hq) e
        exact h2 ⟨h9.1.symm, h9.2.symm⟩
    · rw [mUp_ne _ _ h] at hp; cases hp
  refine lv_dup hx hb dL_law_11 rfl ?_
  refine l_cN (post := fun adm : Nat → Nat → Nat => adm 30 0 = o4) (M' := fun adm => mwM g adm iniF) (As := []) (rest := [.ref o4]) hcf (fun A9 => k_X4_init l g A9 o4) (cwI 0 hts (lw_meth q931) rfl rfl rfl (hts _ q41) (hts _ q929) (hts _ q930) rfl (by decide +kernel) ⟨Nat.le_of_ble_eq_true rfl, Nat.le_of_ble_eq_true rfl⟩) hE hA0 hN hM hap hS rfl hl.1 rfl (Nat.le_of_ble_eq_true rfl) dL_law_12 ⟨Nat.le_of_ble_eq_true rfl, Nat.le_of_ble_eq_true rfl⟩ (fun adm H locs hadm hN hM hap hS => ?_)
  refine lv_astore_n (lv' := [(2, .ref o4), (1, .ref o), (0, .ref b)]) hx hb dL_law_15 rfl hl (by decide) rfl (fun ls hl => ?_)
  refine lv_iconst (v := 1) hx hb dL_law_16 (by decide) ?_
  have hB := both_W hM hN hap.sy
  refine m_newa (atype := .long) (ty := .long) hx hb (hts _ q133) rfl hE hB hS hA0 50 0 (by show mwM g adm iniF 50 0 = none; exact mw_low (by omega)) 1 (cA := g.2.1 1) rfl (fun C h9 => by cases h9) 1 (a0 := (1, .inr (.inl (fun _ => 0)))) rfl (by decide) (by decide) (Nat.le_of_ble_eq_true rfl) (Nat.le_of_ble_eq_true rfl) (Nat.le_of_ble_eq_true rfl) dL_law_17 (fun oa H _ hB2 hS => ?_)
  have e0 : (fun _ : Nat => (0 : Int64)) = outF 0 := by
    funext j
    unfold outF
    split <;> rfl
  rw [e0] at hB2
  have hM : mW g.1 (fun q => s.heap.size ≤ q) (cwM g ad (Mo g oa 0) (cKG cK0)) H := hB2.sub (fun k n q hq => by
    by_cases h : k = 50 ∧ n = 0
    · obtain ⟨rfl, rfl⟩ := h; rw [mUp_self]; rw [cw_out] at hq; exact hq
    · rw [mUp_ne _ _ h]
      unfold bothM
      by_cases h2 : k ≤ 11
      · rw [if_pos h2, ← hq]
        have hb9 : Mo g oa 0 k n = mNil k n := mUp_ne _ _ h
        unfold cwM
        rw [hb9]
      · rw [cw_ext (by omega)] at hq
        have hb9 : Mo g oa 0 k n = mNil k n := mUp_ne _ _ h
        rw [hb9] at hq
        cases hq)
  have hN : mW g.1 (fun q => s.heap.size ≤ q) (mwM g adm iniF) H := hB2.sub (fun k n q hq => by
    by_cases h3 : k = 30 ∨ k = 31
    · rw [mUp_ne _ _ (by omega)]
      unfold bothM
      rw [if_neg (by omega)]
      exact hq
    · rw [mw_low h3] at hq; cases hq)
  have hap : apart (cwM g ad (Mo g oa 0) (cKG cK0)) (mwM g adm iniF) := fun k n j i p q hp hq e => by
    have h3 : j = 30 ∨ j = 31 := by
      by_cases h3 : j = 30 ∨ j = 31
      · exact h3
      · rw [mw_low h3] at hq; cases hq
    have hq2 : mUp (bothM (cwM g ad mNil (cKG cK0)) (mwM g adm iniF)) 50 0 (oa, .inl (g.2.1 1, 1, .inr (.inl (outF 0)))) j i = some q := by
      rw [mUp_ne _ _ (by omega)]
      unfold bothM
      rw [if_neg (by omega)]
      exact hq
    by_cases h : k = 50 ∧ n = 0
    · obtain ⟨rfl, rfl⟩ := h
      rw [cw_out] at hp
      have := hB2.2 50 0 j i p q (by rw [mUp_self]; exact hp) hq2 e
      omega
    · have hb9 : Mo g oa 0 k n = mNil k n := mUp_ne _ _ h
      by_cases h2 : k ≤ 11
      · have hp2 : mUp (bothM (cwM g ad mNil (cKG cK0)) (mwM g adm iniF)) 50 0 (oa, .inl (g.2.1 1, 1, .inr (.inl (outF 0)))) k n = some p := by
          rw [mUp_ne _ _ h]
          unfold bothM
          rw [if_pos h2, ← hp]
          unfold cwM
          rw [hb9]
        have := hB2.2 k n j i p q hp2 hq2 e
        omega
      · rw [cw_ext (by omega), hb9] at hp
        cases hp
  refine lv_astore_n (lv' := [(3, .ref oa), (2, .ref o4), (1, .ref o), (0, .ref b)]) hx hb dL_law_19 rfl hl (by decide) rfl (fun ls hl => ?_)
  refine lv_iconst (v := 0) hx hb dL_law_20 (by decide) ?_
  refine lv_istore (lv' := [(4, .int 0), (3, .ref oa), (2, .ref o4), (1, .ref o), (0, .ref b)]) hx hb dL_law_21 hl (by decide) rfl (fun ls hl => ?_)
  rw [← had, ← hadm] at hl
  refine W.widen (k := 300 + 800 * 0) (n := 33000 + 3500 * 0) (by decide) (by decide) ?_
  exact kk adm oa (mrg (cKG cK0) iniF) ad 0 H _ ls hI (hM.congr (cw_mrg hag)) (hN.congr mw_mrg) ((hap.cl (cw_mrg hag)).cr mw_mrg) hS (lv_sub hl [4, 3, 2, 1, 0] rfl)
