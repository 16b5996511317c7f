/-! WHAT IS OWED of class and reference, op by op: the plain ones. hk0: what a state is owed (Inv) doesn't look at the reference's refusal -/
set_option maxRecDepth 100000
theorem inF_nat {v : Int32} {n : Nat} (hn : n < 1000) (h : ¬ inF v 0 (nI n) = 0) : ∃ j, j ≤ n ∧ v = nI j := by
  unfold inF at h
  by_cases h0 : v < 0
  · rw [if_pos h0] at h; exact absurd rfl h
  · rw [if_neg h0] at h
    by_cases h1 : nI n < v
    · rw [if_pos h1] at h; exact absurd rfl h
    · have h2 : ¬ nI (n + 1) ≤ v := fun z => h1 (Int32.lt_of_lt_of_le (nI_lt (Nat.lt_succ_self n) (by omega)) z)
      obtain ⟨j, hj, e, -⟩ := pk_mu h0 h2 (by omega)
      exact ⟨j, by omega, e⟩
theorem inF_01 (v a b : Int32) : inF v a b = 0 ∨ inF v a b = 1 := by
  unfold inF
  repeat' split
  all_goals first | exact Or.inl rfl | exact Or.inr rfl
/-- a contract whose addresses stay, as the law's ops ask it -/
theorem toC {g : GG} {A : Nat → Prop} {r : Int32} {ad : Nat → Nat → Nat} {Mx : MM} {x1 : St} (a : Array Value) (st : State) (o : Outcome) (t : State) (h : pQi g A r (cwM g ad Mx x1) a st o t) : va_Qi (fun (r2 : Int32) (ad2 : Nat → Nat → Nat) => r2 = r ∧ ad2 0 0 = ad 0 0) (fun ad2 t => mW g.1 A (cwM g ad2 Mx x1) t.heap) A a st o t := by
  obtain ⟨⟨r2, u, h1, h2, h3⟩, hF⟩ := h
  exact ⟨⟨r2, ad, h1, ⟨h2, rfl⟩, h3⟩, hF⟩
theorem eqv_r0 (z : St) (w : Int32) : eqv z (sI z 0 0 w) := ⟨fun f h0 _ _ _ => (sI_ne z 0 0 w h0).symm, rfl⟩
theorem r0_0 (z : St) (w : Int32) : (sI z 0 0 w).1 0 0 = w := by rw [sI_1, if_pos ⟨rfl, rfl⟩]
theorem eqv.sI {x y : St} (h : eqv x y) (f k : Nat) {v w : Int32} (hv : v = w) : eqv (sI x f k v) (sI y f k w) := by
  subst hv
  refine ⟨fun f2 a b c d => ?_, h.2⟩
  funext j
  rw [sI_1, sI_1, h.1 f2 a b c d]
theorem eqv.sL {x y : St} (h : eqv x y) (f : Nat) {v w : Int64} (hv : v = w) : eqv (sL x f v) (sL y f w) := by
  subst hv
  refine ⟨fun f2 a b c d => h.1 f2 a b c d, ?_⟩
  funext j
  rw [sL_2, sL_2, h.2]
section OPS
variable {l : Launch} {g : GG} {Inv I2 : St → Prop}
theorem op_air (hlt : l.stackTraces = false) (hk0 : ∀ z w, Inv z → I2 (mrg z (sI z 0 0 w))) : Op_air l g Inv I2 := by
  intro z hI a0
  by_cases h0 : inF a0 0 1 = 0
  · refine ⟨1, fun v => v, 0, z, sI z 0 0 1, fun ad oa v => ⟨rm_X0_air_n1, 1, 6, ⟨rfl, rfl, by decide, by decide, by decide, by decide⟩, fun A => (k_X0_air_n1 l g A hlt ad z oa v a0 h0).post toC⟩, fun adm => ⟨rm_X4_air_no, 0, 0, ⟨rfl, rfl, by decide, by decide, by decide, by decide⟩, fun A => k_X4_air_no l g A adm z a0 1 ?_ (by decide)⟩, r0_0 z 1, fun h => absurd h (by decide), (eqv_r0 z 1).agr, hk0 z 1 hI⟩
    unfold why_air
    rw [if_pos h0]
  · obtain ⟨j, hj, rfl⟩ := inF_nat (n := 1) (by decide) h0
    refine ⟨0, fun _ => z.2 (30 + j), if nI j = 0 then z.2 30 else z.2 31, z, sI z 0 0 0, fun ad oa v => ⟨rm_X0_air_ok, 0, 0, ⟨rfl, rfl, by decide, by decide, by decide, by decide⟩, fun A => (k_X0_air_ok l g A ad z oa v j (by omega)).post toC⟩, fun adm => ⟨rm_X4_air_ok, 0, 0, ⟨rfl, rfl, by decide, by decide, by decide, by decide⟩, fun A => k_X4_air_ok l g A adm z (nI j) ?_⟩, r0_0 z 0, fun _ v => ?_, (eqv_r0 z 0).agr, hk0 z 0 hI⟩
    · unfold why_air
      rw [if_neg h0]
    · have : j = 0 ∨ j = 1 := by omega
      rcases this with rfl | rfl
      · exact (if_pos rfl).symm
      · exact (if_neg (by decide)).symm
theorem op_month (hok : ∀ z, Inv z → okM z) (hk0 : ∀ z w, Inv z → I2 (mrg z (sI z 0 0 w))) : Op_month l g Inv I2 := by
  intro z hI
  exact ⟨z.1 1 0, z, sI z 0 0 0, fun ad oa v => ⟨rm_X1_month, 0, 0, ⟨rfl, rfl, by decide, by decide, by decide, by decide⟩, fun A => k_X1_month l g A ad (Mo g oa v) z⟩, fun adm => ⟨rm_X4_month, 0, 0, ⟨rfl, rfl, by decide, by decide, by decide, by decide⟩, fun A => k_X4_month l g A adm z (hok z hI)⟩, (eqv_r0 z 0).agr, hk0 z 0 hI⟩
theorem op_moss (hlt : l.stackTraces = false) (hk0 : ∀ z w, Inv z → I2 (mrg z (sI z 0 0 w))) (hkm : ∀ z k a1, Inv z → k < 25 → inF a1 0 3 = 1 → I2 (mrg (mosF z k a1) (mosF (sI z 0 0 0) k a1))) : Op_moss l g Inv I2 := by
  intro z hI a0 a1
  by_cases h0 : inF a0 0 24 = 0
  · refine ⟨1, fun v => v, 0, z, sI z 0 0 1, fun ad oa v => ⟨rm_X0_moss_n1, 1, 6, ⟨rfl, rfl, by decide, by decide, by decide, by decide⟩, fun A => (k_X0_moss_n1 l g A hlt ad z oa v a0 a1 h0).post toC⟩, fun adm => ⟨rm_X4_moss_no, 0, 0, ⟨rfl, rfl, by decide, by decide, by decide, by decide⟩, fun A => k_X4_moss_no l g A adm z a0 a1 1 ?_ (by decide)⟩, r0_0 z 1, fun h => absurd h (by decide), (eqv_r0 z 1).agr, hk0 z 1 hI⟩
    unfold why_moss
    rw [if_pos h0]
  obtain ⟨k, hk, rfl⟩ := inF_nat (n := 24) (by decide) h0
  by_cases h1 : inF a1 0 3 = 0
  · refine ⟨2, fun v => v, 0, z, sI z 0 0 2, fun ad oa v => ⟨rm_X0_moss_n2, 1, 6, ⟨rfl, rfl, by decide, by decide, by decide, by decide⟩, fun A => (k_X0_moss_n2 l g A hlt ad z oa v k (by omega) a1 h1).post toC⟩, fun adm => ⟨rm_X4_moss_no, 0, 0, ⟨rfl, rfl, by decide, by decide, by decide, by decide⟩, fun A => k_X4_moss_no l g A adm z (nI k) a1 2 ?_ (by decide)⟩, r0_0 z 2, fun h => absurd h (by decide), (eqv_r0 z 2).agr, hk0 z 2 hI⟩
    unfold why_moss
    rw [if_neg h0, if_pos h1]
  have h11 : inF a1 0 3 = 1 := (inF_01 _ _ _).resolve_left h1
  refine ⟨0, fun _ => (z.1 5 k).toInt64, z.1 5 k, mosF z k a1, mosF (sI z 0 0 0) k a1, fun ad oa v => ⟨rm_X0_moss_ok, 0, 0, ⟨rfl, rfl, by decide, by decide, by decide, by decide⟩, fun A => (k_X0_moss_ok l g A ad z oa v k (by omega) a1 h11).post toC⟩, fun adm => ⟨rm_X4_moss_ok, 0, 0, ⟨rfl, rfl, by decide, by decide, by decide, by decide⟩, fun A => k_X4_moss_ok l g A adm z k (by omega) a1 ?_⟩, rfl, fun _ _ => rfl, ((eqv_r0 z 0).sI 5 k rfl).agr, hkm z k a1 hI (by omega) h11⟩
  unfold why_moss_k
  rw [if_neg h1]
end OPS
