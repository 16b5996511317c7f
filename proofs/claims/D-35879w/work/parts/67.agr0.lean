/-! at the start land and reference agree -/
set_option maxRecDepth 100000
theorem agr0_2 : ∀ k, k < 25 → (cKG cK0).1 2 k = iniF.1 2 k ∧ (cKG cK0).1 3 k = iniF.1 3 k ∧ (cKG cK0).1 4 k = iniF.1 4 k ∧ (cKG cK0).1 5 k = iniF.1 5 k ∧ (cKG cK0).1 6 k = iniF.1 6 k := by decide +kernel
theorem agr0_8 : ∀ k, k < 125 → (cKG cK0).1 8 k = iniF.1 8 k ∧ (cKG cK0).1 9 k = iniF.1 9 k ∧ (cKG cK0).1 10 k = iniF.1 10 k ∧ (cKG cK0).1 11 k = iniF.1 11 k := by decide +kernel
theorem agr0_1 : (cKG cK0).1 1 0 = iniF.1 1 0 ∧ (cKG cK0).1 13 0 = iniF.1 13 0 ∧ (cKG cK0).1 19 0 = iniF.1 19 0 ∧ (cKG cK0).1 24 0 = iniF.1 24 0 := by decide +kernel
theorem agr0_L : ∀ f, f < 32 → 26 ≤ f → (cKG cK0).2 f = iniF.2 f := by decide +kernel
theorem agr0_n : nt (cKG cK0) 13 0 = 0 ∧ nt (cKG cK0) 19 0 = 0 ∧ nt (cKG cK0) 24 0 = 0 := by decide +kernel
theorem agr0 : agr (cKG cK0) iniF := ⟨agr0_1, agr0_2, agr0_8, fun k h => by rw [agr0_n.1] at h; omega, fun k h => by rw [agr0_n.2.1] at h; omega, fun k h => by rw [agr0_n.2.2] at h; omega, fun f h1 h2 => agr0_L f (by omega) h1⟩
