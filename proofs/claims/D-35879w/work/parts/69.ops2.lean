/-! WHAT IS OWED of class and reference: ground, claimOf, reading -/
set_option maxRecDepth 100000
/-- below a count -/
theorem inF_cntN {v : Int32} {n : Nat} (hn : n < 50) (h : ¬ inF v 0 (nI n - 1) = 0) : ∃ j, j < n ∧ v = nI j := by
  unfold inF at h
  by_cases h0 : v < 0
  · rw [if_pos h0] at h; exact absurd rfl h
  · rw [if_neg h0] at h
    by_cases h1 : nI n - 1 < v
    · rw [if_pos h1] at h; exact absurd rfl h
    · by_cases hz : n = 0
      · subst hz
        exact absurd (Int32.lt_of_lt_of_le (by decide) (Int32.not_lt.mp h0)) h1
      · have e9 : nI n - nI 1 = nI (n - 1) := pk_sub (by omega)
        have e : nI n - 1 = nI (n - 1) := e9
        rw [e] at h1
        have h2 : ¬ nI n ≤ v := fun z => h1 (Int32.lt_of_lt_of_le (nI_lt (by omega) (by omega)) z)
        obtain ⟨j, hj, e, -⟩ := pk_mu h0 h2 (by omega)
        exact ⟨j, by omega, e⟩
section OPS
variable {l : Launch} {g : GG} {Inv I2 : St → Prop}
theorem eqv_gro {x y : St} (h : eqv x y) (j : Nat) (a2 a3 a4 a5 : Int32) : eqv (groF x j a2 a3 a4 a5) (groF y j a2 a3 a4 a5) := by
  have k : ∀ f, (f ≠ 0 ∧ f ≠ 7 ∧ f ≠ 12 ∧ f < 40) → x.1 f = y.1 f := fun f q => h.1 f q.1 q.2.1 q.2.2.1 q.2.2.2
  unfold groF
  rw [k 8 (by decide), k 9 (by decide), k 10 (by decide), k 11 (by decide), h.2]
  exact ((((((h.sL 26 rfl).sL 27 rfl).sL 28 rfl).sI 8 j rfl).sI 9 j rfl).sI 10 j rfl).sI 11 j rfl
theorem op_ground (hlt : l.stackTraces = false) (hk0 : ∀ z w, Inv z → I2 (mrg z (sI z 0 0 w))) (hkg : ∀ z j a2 a3 a4 a5, Inv z → j < 125 → cgrW a2 a3 a4 a5 = 1 → I2 (mrg (groF z j a2 a3 a4 a5) (groF (sI z 0 0 0) j a2 a3 a4 a5))) : Op_ground l g Inv I2 := by
  intro z hI a0 a1 a2 a3 a4 a5
  have why : ∀ w, why_ground a0 a1 a2 a3 a4 a5 = w → (if (if inF a0 0 24 = 0 then (0 : Int32) else if inF a1 0 4 = 0 then 0 else 1) = 0 then (1 : Int32) else if cgrW a2 a3 a4 a5 = 0 then 2 else 0) = w := fun w h => h
  by_cases h0 : inF a0 0 24 = 0
  · refine ⟨1, z, sI z 0 0 1, fun ad oa v => ⟨rm_X0_ground_n1, 1, 6, ⟨rfl, rfl, by decide, by decide, by decide, by decide⟩, fun A => (k_X0_ground_n1 l g A hlt ad z oa v a0 a1 a2 a3 a4 a5 h0).post toC⟩, fun adm => ⟨rm_X4_ground_no, 0, 0, ⟨rfl, rfl, by decide, by decide, by decide, by decide⟩, fun A => k_X4_ground_no l g A adm z a0 a1 a2 a3 a4 a5 1 ?_ (by decide)⟩, r0_0 z 1, (eqv_r0 z 1).agr, hk0 z 1 hI⟩
    unfold why_ground
    rw [if_pos h0, if_pos rfl]
  obtain ⟨k, hk, rfl⟩ := inF_nat (n := 24) (by decide) h0
  by_cases h1 : inF a1 0 4 = 0
  · refine ⟨1, z, sI z 0 0 1, fun ad oa v => ⟨rm_X0_ground_n2, 1, 6, ⟨rfl, rfl, by decide, by decide, by decide, by decide⟩, fun A => (k_X0_ground_n2 l g A hlt ad z oa v k (by omega) a1 a2 a3 a4 a5 h1).post toC⟩, fun adm => ⟨rm_X4_ground_no, 0, 0, ⟨rfl, rfl, by decide, by decide, by decide, by decide⟩, fun A => k_X4_ground_no l g A adm z (nI k) a1 a2 a3 a4 a5 1 ?_ (by decide)⟩, r0_0 z 1, (eqv_r0 z 1).agr, hk0 z 1 hI⟩
    unfold why_ground
    rw [if_neg h0, if_pos h1, if_pos rfl]
  obtain ⟨n, hn, rfl⟩ := inF_nat (n := 4) (by decide) h1
  by_cases hw : cgrW a2 a3 a4 a5 = 0
  · refine ⟨2, z, sI z 0 0 2, fun ad oa v => ⟨rm_X0_ground_n3, 1, 6, ⟨rfl, rfl, by decide, by decide, by decide, by decide⟩, fun A => (k_X0_ground_n3 l g A hlt ad z oa v k n (by omega) (by omega) a2 a3 a4 a5 hw).post toC⟩, fun adm => ⟨rm_X4_ground_no, 0, 0, ⟨rfl, rfl, by decide, by decide, by decide, by decide⟩, fun A => k_X4_ground_no l g A adm z (nI k) (nI n) a2 a3 a4 a5 2 ?_ (by decide)⟩, r0_0 z 2, (eqv_r0 z 2).agr, hk0 z 2 hI⟩
    unfold cgrW at hw
    unfold why_ground
    rw [if_neg h0, if_neg h1, if_neg (by decide), if_pos hw]
  have hw1 : cgrW a2 a3 a4 a5 = 1 := by
    unfold cgrW at hw ⊢
    revert hw
    repeat' split
    all_goals first | (intro h; exact absurd rfl h) | (intro _; rfl)
  refine ⟨0, groF z (5 * k + n) a2 a3 a4 a5, groF (sI z 0 0 0) (5 * k + n) a2 a3 a4 a5, fun ad oa v => ⟨rm_X0_ground_ok, 0, 0, ⟨rfl, rfl, by decide, by decide, by decide, by decide⟩, fun A => (k_X0_ground_ok l g A ad z oa v k n (by omega) (by omega) a2 a3 a4 a5 hw1).post toC⟩, fun adm => ⟨rm_X4_ground_ok, 0, 0, ⟨rfl, rfl, by decide, by decide, by decide, by decide⟩, fun A => k_X4_ground_ok l g A adm z k n (by omega) (by omega) a2 a3 a4 a5 ?_⟩, ?_, (eqv_gro (eqv_r0 z 0) _ a2 a3 a4 a5).agr, hkg z (5 * k + n) a2 a3 a4 a5 hI (by omega) hw1⟩
  · unfold cgrW at hw
    unfold why_ground_k
    rw [if_neg hw]
  · unfold groF
    rw [sI_o (fun z => absurd z.1 (by decide)), sI_o (fun z => absurd z.1 (by decide)), sI_o (fun z => absurd z.1 (by decide)), sI_o (fun z => absurd z.1 (by decide))]
    exact r0_0 z 0
theorem op_claimOf (hlt : l.stackTraces = false) (hok : ∀ z, Inv z → okM z) (hls : ∀ z, Inv z → lsOK z) (hk0 : ∀ z w, Inv z → I2 (mrg z (sI z 0 0 w))) : Op_claimOf l g Inv I2 := by
  intro z hI a0
  have hb : nt z 24 0 < 50 := (hls_n z (hls z hI)).2.2.1
  by_cases h0 : inF a0 0 (nI (nt z 24 0) - 1) = 0
  · refine ⟨1, fun v => v, 0, z, sI z 0 0 1, fun ad oa v => ⟨rm_X0_claimOf_n1, 1, 6, ⟨rfl, rfl, by decide, by decide, by decide, by decide⟩, fun A => (k_X0_claimOf_n1 l g A hlt ad z oa v (hls z hI) a0 h0).post toC⟩, fun adm => ⟨rm_X4_claimOf_no, 0, 0, ⟨rfl, rfl, by decide, by decide, by decide, by decide⟩, fun A => k_X4_claimOf_no l g A adm z (hok z hI) a0 1 ?_ (by decide)⟩, r0_0 z 1, fun h => absurd h (by decide), (eqv_r0 z 1).agr, hk0 z 1 hI⟩
    unfold why_claimOf
    rw [if_pos h0]
  obtain ⟨n, hn, rfl⟩ := inF_cntN hb h0
  refine ⟨0, fun _ => (z.1 25 n).toInt64, z.1 25 n, z, sI z 0 0 0, fun ad oa v => ⟨rm_X0_claimOf_ok, 0, 0, ⟨rfl, rfl, by decide, by decide, by decide, by decide⟩, fun A => (k_X0_claimOf_ok l g A ad z oa v (hls z hI) n hn).post toC⟩, fun adm => ⟨rm_X4_claimOf_ok, 0, 0, ⟨rfl, rfl, by decide, by decide, by decide, by decide⟩, fun A => k_X4_claimOf_ok l g A adm z (hok z hI) n hn ?_⟩, r0_0 z 0, fun _ _ => rfl, (eqv_r0 z 0).agr, hk0 z 0 hI⟩
  unfold why_claimOf_k
  rw [if_neg h0]
end OPS
