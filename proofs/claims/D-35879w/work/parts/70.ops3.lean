/-! WHAT IS OWED of class and reference: fire, layerOf, balance (what their plain laws owe is named in hypotheses) -/
set_option maxRecDepth 100000
theorem i32_lt3 (v : Int32) : v < 3 ↔ v ≤ 2 := by
  rw [Int32.lt_iff_toInt_lt, Int32.le_iff_toInt_le, show (3 : Int32).toInt = 3 from rfl, show (2 : Int32).toInt = 2 from rfl]
  omega
theorem clk_lak (z : St) (k : Nat) : clkF z k = lakF z k := by
  unfold clkF lakF
  by_cases h : z.1 3 k < 3
  · rw [if_pos h, if_pos ((i32_lt3 _).mp h)]
  · rw [if_neg h, if_neg (fun y => h ((i32_lt3 _).mpr y))]
theorem cdeg_deg (z : St) (k : Nat) : cdeg z k = degF z k := rfl
theorem sI_comm (x : St) (f k f2 k2 : Nat) (v w : Int32) (h : f ≠ f2) : sI (sI x f k v) f2 k2 w = sI (sI x f2 k2 w) f k v := by
  refine Prod.ext ?_ rfl
  funext a b
  show (sI (sI x f k v) f2 k2 w).1 a b = (sI (sI x f2 k2 w) f k v).1 a b
  rw [sI_1, sI_1, sI_1, sI_1]
  by_cases h1 : a = f2 ∧ b = k2
  · rw [if_pos h1, if_neg (fun z => h (z.1.symm.trans h1.1)), if_pos h1]
  · rw [if_neg h1, if_neg h1]
section OPS
variable {l : Launch} {g : GG} {Inv I2 : St → Prop}
theorem eqv_fir (z : St) (k : Nat) : eqv (cfiF z k) (firF (sI z 0 0 0) k) := by
  have e : cfiF z k = firF z k := by
    unfold cfiF firF cfiG
    rw [sI_comm z 11 (5 * k + 0) 5 k _ _ (by decide)]
    rfl
  rw [e]
  unfold firF
  exact (((eqv_r0 z 0).sI 5 k rfl).sI 11 (5 * k) rfl).sL 30 rfl
theorem op_fire (hlt : l.stackTraces = false) (hok : ∀ z, Inv z → okM z) (hk0 : ∀ z w, Inv z → I2 (mrg z (sI z 0 0 w))) (hkf : ∀ z k, Inv z → k < 25 → I2 (mrg (cfiF z k) (firF (sI z 0 0 0) k))) : Op_fire l g Inv I2 := by
  intro z hI a0
  by_cases h0 : inF a0 0 24 = 0
  · exact ⟨1, fun v => v, 0, z, sI z 0 0 1, fun ad oa v => ⟨rm_X0_fire_n1, 1, 6, ⟨rfl, rfl, by decide, by decide, by decide, by decide⟩, fun A => (k_X0_fire_n1 l g A hlt ad z oa v a0 h0).post toC⟩, fun adm => ⟨rm_X4_fire_no, 0, 0, ⟨rfl, rfl, by decide, by decide, by decide, by decide⟩, fun A => k_X4_fire_no l g A adm z a0 h0 1 rfl (by decide)⟩, r0_0 z 1, fun h => absurd h (by decide), (eqv_r0 z 1).agr, hk0 z 1 hI⟩
  obtain ⟨k, hk, rfl⟩ := inF_nat (n := 24) (by decide) h0
  have hs := (hok z hI).h4 (c := k) (by omega)
  have hz4 : z.1 4 k ≤ 0 ↔ z.1 4 k = 0 := by
    rw [hs.1]
    constructor
    · intro h
      have h9 : (z.1 4 k).toNatClampNeg = 0 := by
        have := (nI_leI (a := (z.1 4 k).toNatClampNeg) (b := 0) (by have := hs.2; omega) (by decide)).mp h
        omega
      rw [h9]
      rfl
    · intro h
      rw [h]
      decide
  have e : why_fire_k z k = if cfiW z k = 0 then 2 else 0 := by
    unfold why_fire_k cfiW
    rw [clk_lak]
    by_cases h1 : lakF z k = 0
    · rw [if_pos h1, if_pos h1]
      by_cases h2 : z.1 4 k = 0
      · rw [if_pos (hz4.mpr h2), if_pos h2, if_neg (by decide)]
      · rw [if_neg (fun y => h2 (hz4.mp y)), if_neg h2, if_pos rfl]
    · rw [if_neg h1, if_neg h1, if_pos rfl]
  by_cases hw : cfiW z k = 0
  · rw [if_pos hw] at e
    exact ⟨2, fun v => v, 0, z, sI z 0 0 2, fun ad oa v => ⟨rm_X0_fire_n2, 1, 6, ⟨rfl, rfl, by decide, by decide, by decide, by decide⟩, fun A => (k_X0_fire_n2 l g A hlt ad z oa v k (by omega) hw).post toC⟩, fun adm => ⟨rm_X4_fire_nk, 0, 0, ⟨rfl, rfl, by decide, by decide, by decide, by decide⟩, fun A => k_X4_fire_nk l g A adm z k (by omega) 2 e (by decide)⟩, r0_0 z 2, fun h => absurd h (by decide), (eqv_r0 z 2).agr, hk0 z 2 hI⟩
  · rw [if_neg hw] at e
    have hw1 : cfiW z k = 1 := by
      unfold cfiW at hw ⊢
      revert hw
      repeat' split
      all_goals first | (intro h; exact absurd rfl h) | (intro _; rfl)
    refine ⟨0, fun _ => (cfiG z k).toInt64, z.1 11 (5 * k) / 2, cfiF z k, firF (sI z 0 0 0) k, fun ad oa v => ⟨rm_X0_fire_ok, 0, 0, ⟨rfl, rfl, by decide, by decide, by decide, by decide⟩, fun A => (k_X0_fire_ok l g A ad z oa v k (by omega) hw1).post toC⟩, fun adm => ⟨rm_X4_fire_ok, 0, 0, ⟨rfl, rfl, by decide, by decide, by decide, by decide⟩, fun A => k_X4_fire_ok l g A adm z k (by omega) e⟩, ?_, fun _ _ => rfl, (eqv_fir z k).agr, hkf z k hI (by omega)⟩
    unfold firF
    rw [sL_1, sI_o (fun z => absurd z.1 (by decide)), sI_o (fun z => absurd z.1 (by decide))]
    exact r0_0 z 0
theorem op_layerOf (hlt : l.stackTraces = false) (hk0 : ∀ z w, Inv z → I2 (mrg z (sI z 0 0 w))) (hmel : ∀ z j, Inv z → j < 125 → cmel z j = melF z j) : Op_layerOf l g Inv I2 := by
  intro z hI a0 a1 a2
  by_cases h0 : inF a0 0 24 = 0
  · refine ⟨1, fun v => v, 0, z, sI z 0 0 1, fun ad oa v => ⟨rm_X0_layerOf_n1, 1, 6, ⟨rfl, rfl, by decide, by decide, by decide, by decide⟩, fun A => (k_X0_layerOf_n1 l g A hlt ad z oa v a0 a1 a2 h0).post toC⟩, fun adm => ⟨rm_X4_layerOf_no, 0, 0, ⟨rfl, rfl, by decide, by decide, by decide, by decide⟩, fun A => k_X4_layerOf_no l g A adm z a0 a1 a2 1 ?_ (by decide)⟩, r0_0 z 1, fun h => absurd h (by decide), (eqv_r0 z 1).agr, hk0 z 1 hI⟩
    unfold why_layerOf
    rw [if_pos h0, if_pos rfl]
  obtain ⟨k, hk, rfl⟩ := inF_nat (n := 24) (by decide) h0
  by_cases h1 : inF a1 0 4 = 0
  · refine ⟨1, fun v => v, 0, z, sI z 0 0 1, fun ad oa v => ⟨rm_X0_layerOf_n2, 1, 6, ⟨rfl, rfl, by decide, by decide, by decide, by decide⟩, fun A => (k_X0_layerOf_n2 l g A hlt ad z oa v k (by omega) a1 a2 h1).post toC⟩, fun adm => ⟨rm_X4_layerOf_no, 0, 0, ⟨rfl, rfl, by decide, by decide, by decide, by decide⟩, fun A => k_X4_layerOf_no l g A adm z (nI k) a1 a2 1 ?_ (by decide)⟩, r0_0 z 1, fun h => absurd h (by decide), (eqv_r0 z 1).agr, hk0 z 1 hI⟩
    unfold why_layerOf
    rw [if_neg h0, if_pos h1, if_pos rfl]
  obtain ⟨n, hn, rfl⟩ := inF_nat (n := 4) (by decide) h1
  by_cases h2 : inF a2 0 5 = 0
  · refine ⟨2, fun v => v, 0, z, sI z 0 0 2, fun ad oa v => ⟨rm_X0_layerOf_n3, 1, 6, ⟨rfl, rfl, by decide, by decide, by decide, by decide⟩, fun A => (k_X0_layerOf_n3 l g A hlt ad z oa v k n (by omega) (by omega) a2 h2).post toC⟩, fun adm => ⟨rm_X4_layerOf_no, 0, 0, ⟨rfl, rfl, by decide, by decide, by decide, by decide⟩, fun A => k_X4_layerOf_no l g A adm z (nI k) (nI n) a2 2 ?_ (by decide)⟩, r0_0 z 2, fun h => absurd h (by decide), (eqv_r0 z 2).agr, hk0 z 2 hI⟩
    unfold why_layerOf
    rw [if_neg h0, if_neg h1, if_neg (by decide), if_pos h2]
  obtain ⟨w, hw, rfl⟩ := inF_nat (n := 5) (by decide) h2
  refine ⟨0, fun _ => (claF z (5 * k + n) w).toInt64, layF (sI z 0 0 0) (5 * k + n) (nI w), z, sI z 0 0 0, fun ad oa v => ⟨rm_X0_layerOf_ok, 0, 0, ⟨rfl, rfl, by decide, by decide, by decide, by decide⟩, fun A => (k_X0_layerOf_ok l g A ad z oa v k n (by omega) (by omega) w (by omega)).post toC⟩, fun adm => ⟨rm_X4_layerOf_ok, 0, 0, ⟨rfl, rfl, by decide, by decide, by decide, by decide⟩, fun A => k_X4_layerOf_ok l g A adm z k n (by omega) (by omega) (nI w) ?_⟩, r0_0 z 0, fun _ v => ?_, (eqv_r0 z 0).agr, hk0 z 0 hI⟩
  · unfold why_layerOf_k
    rw [if_neg h2]
  · have hm := hmel z (5 * k + n) hI (by omega)
    have : w = 0 ∨ w = 1 ∨ w = 2 ∨ w = 3 ∨ w = 4 ∨ w = 5 := by omega
    have key : claF z (5 * k + n) w = layF (sI z 0 0 0) (5 * k + n) (nI w) := by
      have e : ∀ f, f ≠ 0 → (sI z 0 0 0).1 f = z.1 f := fun f h => sI_ne z 0 0 0 h
      have ed : degF (sI z 0 0 0) (5 * k + n) = degF z (5 * k + n) := by
        unfold degF
        rw [e 10 (by decide), e 8 (by decide), e 9 (by decide)]
      have em : melF (sI z 0 0 0) (5 * k + n) = melF z (5 * k + n) := by
        unfold melF
        rw [e 10 (by decide), e 8 (by decide), e 9 (by decide)]
      unfold claF layF
      rw [ed, em, e 8 (by decide), e 9 (by decide), e 10 (by decide), e 11 (by decide)]
      rcases this with rfl | rfl | rfl | rfl | rfl | rfl
      · rw [if_pos rfl, if_neg (by decide), if_pos (by decide), cdeg_deg]
      · rw [if_neg (by decide), if_pos rfl, if_neg (by decide), if_neg (by decide), if_pos (by decide)]
      · rw [if_neg (by decide), if_neg (by decide), if_pos rfl, if_neg (by decide), if_neg (by decide), if_neg (by decide)]
      · rw [if_neg (by decide), if_neg (by decide), if_neg (by decide), if_pos rfl, if_pos (by decide), if_pos (by decide)]
      · rw [if_neg (by decide), if_neg (by decide), if_neg (by decide), if_neg (by decide), if_pos rfl, if_pos (by decide), if_neg (by decide), if_pos (by decide)]
      · rw [if_neg (by decide), if_neg (by decide), if_neg (by decide), if_neg (by decide), if_neg (by decide), if_pos (by decide), if_neg (by decide), if_neg (by decide), hm]
    rw [key]
end OPS
