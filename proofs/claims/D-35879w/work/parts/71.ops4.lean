/-! WHAT IS OWED of class and reference: reading; houseOf's and neighbour's first laws -/
set_option maxRecDepth 100000
theorem nI_int {n : Nat} (h : n < 1000) : (nI n).toInt = n := by
  have key : ∀ n, n < 1000 → (nI n).toInt = (n : Int) := by decide +kernel
  exact key n h
theorem i32_pred {m : Nat} (hm : m < 1000) (a : Int32) : nI m ≤ a ↔ nI m - 1 < a := by
  by_cases h : m = 0
  · subst h
    rw [Int32.le_iff_toInt_le, Int32.lt_iff_toInt_lt, show (nI 0).toInt = 0 from rfl, show (nI 0 - 1).toInt = -1 from rfl]
    omega
  · have e9 : nI m - nI 1 = nI (m - 1) := pk_sub (by omega)
    have e : nI m - 1 = nI (m - 1) := e9
    rw [e, Int32.le_iff_toInt_le, Int32.lt_iff_toInt_lt, nI_int hm, nI_int (by omega)]
    omega
theorem chas_in (z : St) (b : Nat) (a : Int32) {m : Nat} (hm : m < 1000) (h : z.1 1 0 = nI m) : chasF z b a (z.1 1 0) = inF a (z.1 22 b) (nI m - 1) := by
  unfold chasF inF
  rw [h]
  by_cases h1 : a < z.1 22 b
  · rw [if_pos h1, if_pos h1]
  · rw [if_neg h1, if_neg h1]
    by_cases h2 : nI m ≤ a
    · rw [if_pos h2, if_pos ((i32_pred hm a).mp h2)]
    · rw [if_neg h2, if_neg (fun y => h2 ((i32_pred hm a).mpr y))]
section OPS
variable {l : Launch} {g : GG} {Inv I2 : St → Prop}
theorem op_reading (hlt : l.stackTraces = false) (hok : ∀ z, Inv z → okM z) (hls : ∀ z, Inv z → lsOK z) (hk0 : ∀ z w, Inv z → I2 (mrg z (sI z 0 0 w))) : Op_reading l g Inv I2 := by
  intro z hI a0 a1 a2
  have ho := hok z hI
  have hb : nt z 19 0 < 50 := (hls_n z (hls z hI)).2.1
  have hb2 : nt z 19 0 < 11 := ho.h19.2
  have h1b : nt z 1 0 < 601 := ho.h1.2
  by_cases h0 : inF a0 0 (nI (nt z 19 0) - 1) = 0
  · exact ⟨1, fun v => v, 0, z, sI z 0 0 1, fun ad oa v => ⟨rm_X0_reading_n1, 1, 6, ⟨rfl, rfl, by decide, by decide, by decide, by decide⟩, fun A => (k_X0_reading_n1 l g A hlt ad z oa v (hls z hI) a0 a1 a2 h0).post toC⟩, fun adm => ⟨rm_X4_reading_na, 0, 0, ⟨rfl, rfl, by decide, by decide, by decide, by decide⟩, fun A => k_X4_reading_na l g A adm z ho a0 a1 a2 h0 1 rfl (by decide)⟩, r0_0 z 1, fun h => absurd h (by decide), (eqv_r0 z 1).agr, hk0 z 1 hI⟩
  obtain ⟨b, hbb, rfl⟩ := inF_cntN hb h0
  by_cases h1 : inF a2 0 4 = 0
  · exact ⟨1, fun v => v, 0, z, sI z 0 0 1, fun ad oa v => ⟨rm_X0_reading_n2, 1, 6, ⟨rfl, rfl, by decide, by decide, by decide, by decide⟩, fun A => (k_X0_reading_n2 l g A hlt ad z oa v (hls z hI) b hbb a1 a2 h1).post toC⟩, fun adm => ⟨rm_X4_reading_nb, 0, 0, ⟨rfl, rfl, by decide, by decide, by decide, by decide⟩, fun A => k_X4_reading_nb l g A adm z ho b hbb a1 a2 h1 1 rfl (by decide)⟩, r0_0 z 1, fun h => absurd h (by decide), (eqv_r0 z 1).agr, hk0 z 1 hI⟩
  obtain ⟨n, hn, rfl⟩ := inF_nat (n := 4) (by decide) h1
  have hch := chas_in z b a1 (m := nt z 1 0) (by omega) ho.h1.1
  by_cases h2 : inF a1 (z.1 22 b) (nI (nt z 1 0) - 1) = 0
  · refine ⟨1, fun v => v, 0, z, sI z 0 0 1, fun ad oa v => ⟨rm_X0_reading_n3, 1, 6, ⟨rfl, rfl, by decide, by decide, by decide, by decide⟩, fun A => (k_X0_reading_n3 l g A hlt ad z oa v (hls z hI) b hbb a1 n (by omega) (hch.trans h2)).post toC⟩, fun adm => ⟨rm_X4_reading_nc, 0, 0, ⟨rfl, rfl, by decide, by decide, by decide, by decide⟩, fun A => k_X4_reading_nc l g A adm z ho b hbb a1 n (by omega) 1 ?_ (by decide)⟩, r0_0 z 1, fun h => absurd h (by decide), (eqv_r0 z 1).agr, hk0 z 1 hI⟩
    unfold why_reading_c
    rw [if_pos h2, if_pos rfl]
  have h3 : inF a1 (z.1 22 b) (nI (nt z 1 0) - 1) = 1 := (inF_01 _ _ _).resolve_left h2
  have hs := ho.h22 (c := b) (by omega)
  obtain ⟨mo, hmo, rfl⟩ : ∃ mo, mo < 600 ∧ a1 = nI mo := by
    have h4 : ¬ a1 < z.1 22 b := fun y => h2 (if_pos y)
    have h5 : ¬ nI (nt z 1 0) ≤ a1 := fun y => h2 ((if_neg h4).trans (if_pos ((i32_pred (by omega) a1).mp y)))
    have h6 : ¬ a1 < 0 := by
      intro y
      refine h4 (Int32.lt_of_lt_of_le y ?_)
      rw [hs.1]
      exact nI_pos' (by have := hs.2; omega)
    obtain ⟨j, hj, e, -⟩ := pk_mu h6 h5 (by omega)
    exact ⟨j, by omega, e⟩
  refine ⟨0, fun _ => (z.1 23 (3000 * b + (5 * mo + n))).toInt64, z.1 23 (3000 * b + 5 * mo + n), z, sI z 0 0 0, fun ad oa v => ⟨rm_X0_reading_ok, 0, 0, ⟨rfl, rfl, by decide, by decide, by decide, by decide⟩, fun A => (k_X0_reading_ok l g A ad z oa v (hls z hI) b hbb mo n hmo (by omega) (hch.trans h3)).post toC⟩, fun adm => ⟨rm_X4_reading_ok, 0, 0, ⟨rfl, rfl, by decide, by decide, by decide, by decide⟩, fun A => k_X4_reading_ok l g A adm z ho b hbb mo hmo n (by omega) ?_⟩, r0_0 z 0, fun _ v => ?_, (eqv_r0 z 0).agr, hk0 z 0 hI⟩
  · unfold why_reading_k
    rw [if_neg h2, if_neg (by decide)]
  · rw [show 3000 * b + (5 * mo + n) = 3000 * b + 5 * mo + n by omega]
end OPS
