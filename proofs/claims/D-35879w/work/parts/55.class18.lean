/-! what is added: lists of the class -/
set_option maxRecDepth 100000
def capOK (x : St) : Prop := ∀ i, i < 3 → nt x 54 i = 0 ∨ nt x 54 i = 10 ∨ nt x 54 i = 15 ∨ nt x 54 i = 22 ∨ nt x 54 i = 33 ∨ nt x 54 i = 49
theorem capN_b {x : St} (hls : lsOK x) (hcp : capOK x) {i : Nat} (hi : i < 3) : 0 < capN x i ∧ capN x i < 1000 := by
  have h1 := hcp i hi
  unfold capN
  split
  · omega
  · split <;> omega
theorem liO_c {g : GG} {ad : Nat → Nat → Nat} {Mx : MM} {x : St} {i a cn cap cap2 el : Nat} {md : Int32} {f : Nat → Option Nat} (hi : i < 3) : liO (liM g (cwM g ad Mx x) i a md el cn cap2 f) cap (cArr ad x i) := by
  intro j hj y hy
  unfold cArr at hy
  by_cases h : j < (cCnt x i).toNatClampNeg
  · rw [if_pos h] at hy
    cases hy
    have : i = 0 ∨ i = 1 ∨ i = 2 := by omega
    rcases this with rfl | rfl | rfl
    · exact ⟨7, j, 5, 8, _, _, (liM_o _ _ _ _ _ _ _ _ _ (by omega) (by omega)).trans (cw_7 h), rfl, rfl⟩
    · exact ⟨8, j, 6, 9, _, _, (liM_o _ _ _ _ _ _ _ _ _ (by omega) (by omega)).trans (cw_8 h), rfl, rfl⟩
    · exact ⟨10, j, 7, 10, _, _, (liM_o _ _ _ _ _ _ _ _ _ (by omega) (by omega)).trans (cw_10 h), rfl, rfl⟩
  · rw [if_neg h] at hy
    cases hy
section MADD
variable {p : Program} {l : Launch} {e : Env} {R : Room} {s : State} {m : MethodId} {args : Array Value} {below : List Frame} {meth : Method} {c : Code} {H : Heap} {locs : List Loc} {cells slots : Nat} {Q : State → Prop}
variable {cc : ByteArray} {pc nL index ci w i q : Nat} {ls : Array Slot} {rest : List Value} {g : GG} {A : Nat → Prop} {ad : Nat → Nat → Nat} {Mx : MM} {x : St} {own : String} {r : vw_C} {vs : List Value}
theorem m_add (S : CallFix p m c cc nL s args lw_all own) (cw1 : CallW R s args own "java/util/ArrayList" index yJ2_add cJ2_add 2 (some .boolean) (ws_ yJ2_add cJ2_add 2 (some .boolean)) rm_J2_add_r 0 0 1) (cw2 : CallW R s args own "java/util/ArrayList" index yJ2_add cJ2_add 2 (some .boolean) (ws_ yJ2_add cJ2_add 2 (some .boolean)) rm_J2_add_m 1 100 1) (cw3 : CallW R s args own "java/util/ArrayList" index yJ2_add cJ2_add 2 (some .boolean) (ws_ yJ2_add cJ2_add 2 (some .boolean)) rm_J2_add_f 1 10 1)
    (hE : amb g A s s.heap) (hA : ∀ q : Nat, s.heap.size ≤ q → A q) (hM : mW g.1 A (cwM g ad Mx x) H) (hS : va_S A s.heap H locs) (hls : lsOK x) (hcp : capOK x) (i : Nat) (hi : i < 3) (hq : Mx 12 0 = some (q, .inr (ci, vs))) (hc : clW[ci]? = some r) (hca : ambW[w]? = some (.castable r.1 "java/lang/Object")) (h14 : Mx 14 0 = none) (hqe : q = cElm ad i (cN x i))
    (hsize : ls.size = nL) (hW : (rest.map fun v => v.category).sum ≤ 8) (hdg : decode cc pc = .ok (.invokevirtual index, 3)) (hf1 : cells + 1 ≤ R.cells) (hf2 : slots + 100 ≤ R.slots)
    (kk : ∀ (eN : Nat) (F9 : Nat → Option Nat) (H1 : Heap) (locs1 : List Loc), (∀ j, F9 j = if j < cN x i + 1 then some (cElm ad i j) else none) → mW g.1 A (liM g (cwM g ad Mx x) i (ad 5 i) (x.1 53 i + 1) eN (cN x i + 1) (capN x i) F9) H1 → va_S A s.heap H1 locs1 → W p l e R s m args below meth c H1 locs1 (cells + 1) (slots + 100) Q (F0 m (pc + 3) ls (.int 1 :: rest))) :
    W p l e R s m args below meth c H locs cells slots Q (F0 m pc ls (.ref q :: .ref (ad 5 i) :: rest)) := by
  obtain ⟨hc1, hc2, hc3⟩ := hls i hi
  have hcap := hcp i hi
  have hq2 : cwM g ad Mx x 12 0 = some (q, .inr (ci, vs)) := (cw_ext (by decide)).trans hq
  have h142 : cwM g ad Mx x 14 0 = none := (cw_ext (by decide)).trans h14
  have hup : ∀ (f : Nat → Option Nat), (∀ j, j < cN x i → f j = some (cElm ad i j)) → (∀ j, ¬ j < cN x i → f j = none) → ∀ j, va_up f (cN x i) (some q) j = if j < cN x i + 1 then some (cElm ad i j) else none := by
    intro f h1 h2 j
    show (if j = cN x i then some q else f j) = _
    by_cases e1 : j = cN x i
    · rw [if_pos e1, if_pos (by omega), hqe, e1]
    · rw [if_neg e1]
      by_cases e2 : j < cN x i
      · rw [if_pos (by omega), h1 j e2]
      · rw [if_neg (by omega), h2 j e2]
  have hAr1 : ∀ j, j < cN x i → cArr ad x i j = some (cElm ad i j) := fun j hj => if_pos hj
  have hAr2 : ∀ j, ¬ j < cN x i → cArr ad x i j = none := fun j hj => if_neg hj
  by_cases h0 : nt x 54 i = 0
  · have hcn : cN x i = 0 := by omega
    have hM' : mW g.1 A (liL g (cwM g ad Mx x) i (ad 5 i) (x.1 53 i) (g.2.2.2 3) 0) H := hM.congr (fun j k => by
      unfold liL
      by_cases h : j = 5 ∧ k = i
      · obtain ⟨rfl, rfl⟩ := h
        rw [mUp_self, cw_5 hi]
        unfold cList cEl
        rw [if_pos h0, hc1, hcn]
      · rw [mUp_ne _ _ h])
    refine m_ci (m_rV (As := [.ref q]) (rest := rest) S (k_J2_add_f l g A (cwM g ad Mx x) i (ad 5 i) (x.1 53 i) (cwn_6 (fun z => z.2 h0)) 12 0 q ci w r vs hq2 (by decide) (by decide) hc hca) cw3 hE hA hM' hS 5 i (mUp_self _ _ _ _) (ci := 8) rfl rfl hsize rfl hW hdg ⟨hf1, by omega⟩) hS (fun r9 eN H1 locs1 hp hM1 hS1 => ?_)
    subst hp
    refine W.widen (k := cells + 1) (n := slots + 100) (Nat.le_refl _) (by omega) ?_
    have e1 : capN x i = 10 := if_pos h0
    have h8 := hup (fun _ => none) (fun j hj => by omega) (fun _ _ => rfl)
    rw [hcn] at h8
    refine kk eN _ H1 locs1 (by rw [hcn]; exact h8) ?_ hS1
    rw [e1, hcn]
    exact hM1
  · have hM' : mW g.1 A (liM g (cwM g ad Mx x) i (ad 5 i) (x.1 53 i) (ad 6 i) (cN x i) (nt x 54 i) (cArr ad x i)) H := hM.congr (fun j k => by
      unfold liM
      by_cases h6 : j = 6 ∧ k = i
      · obtain ⟨rfl, rfl⟩ := h6
        rw [mUp_self, cw_6 hi h0]
      · rw [mUp_ne _ _ h6]
        unfold liL
        by_cases h : j = 5 ∧ k = i
        · obtain ⟨rfl, rfl⟩ := h
          rw [mUp_self, cw_5 hi]
          unfold cList cEl
          rw [if_neg h0, hc1]
        · rw [mUp_ne _ _ h])
    by_cases h1 : cN x i < nt x 54 i
    · refine m_cpi (m_rV (As := [.ref q]) (rest := rest) S (k_J2_add_r l g A (cwM g ad Mx x) i (ad 5 i) (x.1 53 i) (ad 6 i) (cN x i) (nt x 54 i) (cArr ad x i) h1 (by omega) 12 0 q ci w r vs hq2 (by decide) (by decide) hc hca) cw1 hE hA hM' hS 5 i (liM_l _ _ _ _ _ _ _ _ _) (ci := 8) rfl rfl hsize rfl hW hdg ⟨by omega, by omega⟩) hS (fun H1 locs1 hM1 hS1 => ?_)
      refine W.widen (k := cells + 1) (n := slots + 100) (by omega) (by omega) ?_
      have e1 : capN x i = nt x 54 i := (if_neg h0).trans (if_pos h1)
      refine kk (ad 6 i) _ H1 locs1 (hup _ hAr1 hAr2) ?_ hS1
      rw [e1]
      exact hM1
    · have hcc : cN x i = nt x 54 i := by omega
      refine m_ci (m_rV (As := [.ref q]) (rest := rest) S (k_J2_add_m l g A (cwM g ad Mx x) i (ad 5 i) (x.1 53 i) (ad 6 i) (cN x i) (nt x 54 i) (cArr ad x i) hcc (by omega) (by omega) h142 (liO_c hi) 12 0 q ci w r vs hq2 (by decide) (by decide) hc hca) cw2 hE hA hM' hS 5 i (liM_l _ _ _ _ _ _ _ _ _) (ci := 8) rfl rfl hsize rfl hW hdg ⟨hf1, hf2⟩) hS (fun r9 eN H1 locs1 hp hM1 hS1 => ?_)
      subst hp
      have e1 : capN x i = nt x 54 i + nt x 54 i / 2 := (if_neg h0).trans (if_neg h1)
      refine kk eN _ H1 locs1 (hup (cpyF (nt x 54 i) (cArr ad x i)) (fun j hj => ?_) (fun j hj => ?_)) ?_ hS1
      · unfold cpyF
        rw [if_pos (by omega)]
        exact hAr1 j hj
      · unfold cpyF
        rw [hAr2 j hj]
        split <;> rfl
      · rw [e1]
        exact hM1
theorem cc_puth (S : CallFix p m c cc nL s args lw_all own) (hE : amb g A s s.heap) (hM : mW g.1 A (cwM g ad Mx x) H) (hS : va_S A s.heap H locs) (k n : Nat) (hk : k < 25) (hn : n < 50) (hq : ad 7 n = q) {index : Nat} (hl : Cond.fieldLink own index "Wakeground$Cell" (TX2 7).2.1 (TX2 7).2.2.1 ∈ lw_all) (hdg : decode cc pc = .ok (.putfield index, 3))
    (kk : ∀ (x' : St) (H1 : Heap) (locs1 : List Loc), sI x 52 k (nI n) = x' → mW g.1 A (cwM g ad Mx x') H1 → va_S A s.heap H1 locs1 → W p l e R s m args below meth c H1 locs1 cells slots Q (F0 m (pc + 3) ls rest)) : W p l e R s m args below meth c H locs cells slots Q (F0 m pc ls (.ref q :: .ref (ad 2 k) :: rest)) := by
  have hm1 : ¬ nI n = (-1) := fun z => absurd (show (0 : Int32) ≤ -1 from z ▸ nI_pos' (by omega)) (by decide)
  have e52 : (sI x 52 k (nI n)).1 52 k = nI n := if_pos ⟨rfl, rfl⟩
  have hC : cCell ad (sI x 52 k (nI n)) k = (cCell ad x k).set 7 (.ref q) := by
    have hH : cHou ad (sI x 52 k (nI n)) k = some q := by
      unfold cHou nt
      rw [e52, if_neg hm1, nI_clamp (by omega), hq]
    unfold cCell
    rw [hH, sI_o (fun z => absurd z.1 (by decide)), sI_o (fun z => absurd z.1 (by decide)), sI_o (fun z => absurd z.1 (by decide)), sI_o (fun z => absurd z.1 (by decide)), sI_o (fun z => absurd z.1 (by decide))]
    rfl
  exact m_put S.1 S.2.1 S.2.2.2.2 in_X2 tyX2 tyX2_ok nmX2 S.2.2.2.1 hE hM hS 2 k (cw_2 hk) (ci := 2) rfl 7 (by decide) (S.2.2.2.2 _ hl) (fun _ h9 => h9) rfl (ty := .object "Wakeground$House") rfl rfl rfl (by show 7 < 9; decide) (M' := cwM g ad Mx (sI x 52 k (nI n))) (by rw [← hC]; exact cw_2 hk) (fun j i' h => cw_sI (by refine ⟨?_, ?_, ?_, ?_, ?_, ?_, ?_, ?_, ?_, ?_⟩ <;> intros <;> omega)) hdg (fun H1 locs1 h1 h2 => kk _ H1 locs1 rfl h1 h2)
end MADD
theorem ho_fs : ∀ j, j < 5 → defaultValue (tyX6 j) = vp_V [.null, .int 0, .int 0, .int 0, .int 0] j := by
  intro j hj
  have h : j = 0 ∨ j = 1 ∨ j = 2 ∨ j = 3 ∨ j = 4 := by omega
  rcases h with rfl | rfl | rfl | rfl | rfl <;> rfl
theorem bo_fs : ∀ j, j < 4 → defaultValue (tyX7 j) = vp_V [.null, .int 0, .int 0, .null] j := by
  intro j hj
  have h : j = 0 ∨ j = 1 ∨ j = 2 ∨ j = 3 := by omega
  rcases h with rfl | rfl | rfl | rfl <;> rfl
theorem cl_fs : ∀ j, j < 4 → defaultValue (tyX8 j) = vp_V [.null, .int 0, .int 0, .int 0] j := by
  intro j hj
  have h : j = 0 ∨ j = 1 ∨ j = 2 ∨ j = 3 := by omega
  rcases h with rfl | rfl | rfl | rfl <;> rfl
