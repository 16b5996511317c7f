/-! WHAT HOLDS ALL THROUGH: claims, the counts; a month keeps it -/
set_option maxRecDepth 100000
def CR (z : St) : Prop := ∀ n, n < nt z 24 0 → nt z 40 n < nt z 13 0 ∧ z.1 42 n = nI (nt z 42 n) ∧ nt z 42 n ≤ nt z 1 0 ∧ z.1 25 n = cdueF z (nt z 40 n) (z.1 41 n) (nt z 42 n)
def ZR (z : St) : Prop := (∀ h, nt z 13 0 ≤ h → z.1 17 h = 0) ∧ (∀ b j, nt z 19 0 ≤ b → j < 3000 → z.1 23 (3000 * b + j) = 0)
def Inv (t : Nat) (z : St) : Prop := MG z ∧ lsOK z ∧ capOK z ∧ CR z ∧ WV (175 + 9 * t) z ∧ ZR z
/-- what is due: what it looks at -/
theorem cduB_cg {x y : St} {h t m b : Nat} (e20 : nt y 20 b = nt x 20 b) (e14 : nt y 14 h = nt x 14 h) (e22 : y.1 22 b = x.1 22 b) (e15 : nt y 15 h = nt x 15 h) (e23 : m < t → y.1 23 (3000 * b + (5 * m + nt x 15 h)) = x.1 23 (3000 * b + (5 * m + nt x 15 h))) (hm : m < t) : cduB y h t m b = cduB x h t m b := by
  unfold cduB cisW chasF
  rw [e20, e14, e22, e15, e23 hm]
theorem cduZ_cg {x y : St} {h t m : Nat} : ∀ n, (∀ b, b < n → cduB y h t m b = cduB x h t m b) → cduZ y h t m n = cduZ x h t m n := by
  intro n
  induction n with
  | zero => intro _; exact (it_zero _ _).trans (it_zero _ _).symm
  | succ n ih =>
    intro hh
    rw [cduZ_s, cduZ_s, ih (fun b hb => hh b (by omega)), hh n (by omega)]
theorem cdue_cg {x y : St} {h t : Nat} {tl : Int32} (e18 : nt y 18 h = nt x 18 h) (hZ : ∀ m, m < t → cduZ y h t m (nt y 19 0) = cduZ x h t m (nt x 19 0)) : cdueF y h tl t = cdueF x h tl t := by
  have key : ∀ i, i ≤ t - nt x 18 h → cduM y h t i = cduM x h t i := by
    intro i
    induction i with
    | zero => intro _; exact (it_zero _ _).trans (it_zero _ _).symm
    | succ i ih =>
      intro hi
      rw [cduM_s, cduM_s, ih (by omega), e18, hZ (nt x 18 h + i) (by omega)]
  unfold cdueF
  rw [e18, key _ (Nat.le_refl _)]
/-- the same of all that is looked at: what holds is kept -/
theorem CB_cg {x y : St} (e11 : y.1 11 = x.1 11) (e1 : nt x 1 0 ≤ nt y 1 0) (h : CB x) : CB y := by
  intro j hj
  rw [e11]
  exact okN_le (h j hj) (by omega)
theorem CR_cg {x y : St} (e24 : nt y 24 0 = nt x 24 0) (e40 : y.1 40 = x.1 40) (e13 : nt x 13 0 ≤ nt y 13 0) (e42 : y.1 42 = x.1 42) (e1 : nt x 1 0 ≤ nt y 1 0) (e25 : y.1 25 = x.1 25) (e41 : y.1 41 = x.1 41) (hd : ∀ h tl t, h < nt x 13 0 → t ≤ nt x 1 0 → cdueF y h tl t = cdueF x h tl t) (h : CR x) : CR y := by
  intro n hn
  have n40 : nt y 40 n = nt x 40 n := by unfold nt; rw [e40]
  have n42 : nt y 42 n = nt x 42 n := by unfold nt; rw [e42]
  obtain ⟨h1, h2, h3, h4⟩ := h n (by omega)
  rw [n40, n42, e42, e25, e41, hd _ _ _ h1 h3]
  exact ⟨by omega, h2, by omega, h4⟩
theorem cdue_eq {x y : St} (e20 : y.1 20 = x.1 20) (e14 : y.1 14 = x.1 14) (e22 : y.1 22 = x.1 22) (e15 : y.1 15 = x.1 15) (e23 : y.1 23 = x.1 23) (e18 : y.1 18 = x.1 18) (e19 : nt y 19 0 = nt x 19 0) (h t : Nat) (tl : Int32) : cdueF y h tl t = cdueF x h tl t := by
  refine cdue_cg (by unfold nt; rw [e18]) (fun m hm => ?_)
  rw [e19]
  exact cduZ_cg _ (fun b _ => cduB_cg (by unfold nt; rw [e20]) (by unfold nt; rw [e14]) (by rw [e22]) (by unfold nt; rw [e15]) (fun _ => by rw [e23]) hm)
theorem ZR_cg {x y : St} (e13 : nt x 13 0 ≤ nt y 13 0) (e19 : nt x 19 0 ≤ nt y 19 0) (e17 : ∀ h, nt y 13 0 ≤ h → y.1 17 h = x.1 17 h) (e23 : ∀ b j, nt y 19 0 ≤ b → j < 3000 → y.1 23 (3000 * b + j) = x.1 23 (3000 * b + j)) (h : ZR x) : ZR y :=
  ⟨fun k hk => (e17 k hk).trans (h.1 k (by omega)), fun b j hb hj => (e23 b j hb hj).trans (h.2 b j (by omega) hj)⟩
theorem eqw.inv {x y : St} {t : Nat} (h : eqw x y) (hI : Inv t x) : Inv t y := by
  obtain ⟨⟨hok, hr, hk, hb⟩, hls, hcp, hc, hw, hz⟩ := hI
  have e : ∀ f, dk f = false → y.1 f = x.1 f := fun f hf => (h.k hf).symm
  have n : ∀ f k, dk f = false → nt y f k = nt x f k := fun f k hf => (h.nt hf k).symm
  refine ⟨⟨h.ok hok, h.hr hr, LK_cg (e 8 rfl) (e 9 rfl) hk, CB_cg (e 11 rfl) (Nat.le_of_eq (n 1 0 rfl).symm) hb⟩, ls_of (by rw [e 13 rfl]) (by rw [e 19 rfl]) (by rw [e 24 rfl]) (fun i => by rw [e 54 rfl]) hls, cap_of (fun i => by rw [e 54 rfl]) hcp, ?_, WV_cg (e 3 rfl) (e 9 rfl) hw, ?_⟩
  · exact CR_cg (n 24 0 rfl) (e 40 rfl) (Nat.le_of_eq (n 13 0 rfl).symm) (e 42 rfl) (Nat.le_of_eq (n 1 0 rfl).symm) (e 25 rfl) (e 41 rfl) (fun k tl t _ _ => cdue_eq (e 20 rfl) (e 14 rfl) (e 22 rfl) (e 15 rfl) (e 23 rfl) (e 18 rfl) (n 19 0 rfl) k t tl) hc
  · exact ZR_cg (Nat.le_of_eq (n 13 0 rfl).symm) (Nat.le_of_eq (n 19 0 rfl).symm) (fun k _ => by rw [e 17 rfl]) (fun b j _ _ => by rw [e 23 rfl]) hz
theorem Inv.up {t : Nat} {z : St} (h : Inv t z) : Inv (t + 1) z := ⟨h.1, h.2.1, h.2.2.1, h.2.2.2.1, h.2.2.2.2.1.up (by omega), h.2.2.2.2.2⟩
theorem Inv.ok {t : Nat} {z : St} (h : Inv t z) : okM z := h.1.1
theorem Inv.hr {t : Nat} {z : St} (h : Inv t z) : HR z := h.1.2.1
theorem Inv.ls {t : Nat} {z : St} (h : Inv t z) : lsOK z := h.2.1
theorem HR.ho {z : St} (h : HR z) : hoOK z := fun c hc hn => ((h.2.1 c hc).resolve_left hn).1
theorem Inv.ho {t : Nat} {z : St} (h : Inv t z) : hoOK z := h.hr.ho
theorem Inv.cl {t : Nat} {z : St} (h : Inv t z) : clOK z := fun n hn => (h.2.2.2.1 n hn).1
/-- the class's state behind an op serves both -/
theorem Inv.mrg {t : Nat} {x y : St} (h : Inv t x) (he : eqv x y) : Inv t (mrg x y) := (eqw_mrg he).inv h
/-! a month: what it writes of readings and tilts -/
theorem til_17 (x : St) : ∀ n h, n ≤ h → (it tilF x n).1 17 h = x.1 17 h := by
  intro n
  induction n with
  | zero => intro h _; rfl
  | succ n ih =>
    intro h hh
    rw [it_succ]
    exact (sI_o (fun q => by have := q.2; omega)).trans (ih h (by omega))
theorem reaI_23 {y : St} {b mo i : Nat} (h1 : nt y 1 0 = mo) (hi : ∀ k, k < 5 → i ≠ 3000 * b + 5 * mo + k) : ∀ n, n ≤ 5 → (reaI y b n).1 23 i = y.1 23 i ∧ nt (reaI y b n) 1 0 = mo := by
  intro n
  induction n with
  | zero => intro _; exact ⟨rfl, h1⟩
  | succ n ih =>
    intro hn
    obtain ⟨a, e⟩ := ih (by omega)
    rw [reaI_s]
    refine ⟨?_, ?_⟩
    · unfold reaF
      rw [e]
      exact (sI_o (fun q => hi n (by omega) q.2)).trans a
    · unfold reaF nt
      rw [sI_o (fun q => absurd q.1 (by decide))]
      exact e
theorem reaB_23 {y : St} {mo i : Nat} (h1 : nt y 1 0 = mo) : ∀ n, (∀ b k, b < n → k < 5 → i ≠ 3000 * b + 5 * mo + k) → (it reaB y n).1 23 i = y.1 23 i ∧ nt (it reaB y n) 1 0 = mo := by
  intro n
  induction n with
  | zero => intro _; exact ⟨rfl, h1⟩
  | succ n ih =>
    intro hi
    obtain ⟨a, e⟩ := ih (fun b k hb hk => hi b k (by omega) hk)
    rw [it_succ]
    have h2 := reaI_23 (b := n) e (fun k hk => hi n k (by omega) hk) 5 (Nat.le_refl _)
    exact ⟨h2.1.trans a, h2.2⟩
theorem month_inv {x : St} {air fall : Int32} {t : Nat} (ht : t ≤ 64) (h : Inv t x) (hf : okN fall 10) (hm : nt x 1 0 < 600) : Inv t (cpaF x air fall) ∧ nt (cpaF x air fall) 1 0 = nt x 1 0 + 1 := by
  obtain ⟨hg, hls, hcp, hc, hw, hz⟩ := h
  obtain ⟨k5, k6, k7, e6, e7⟩ := ko_cpa (air := air) (fall := fall) hg hm
  obtain ⟨-, k11, b11⟩ := cp5_wak (air := air) (fall := fall) hg hm
  obtain ⟨⟨go, gl, -⟩, gm⟩ := good_cpa (air := air) ⟨hg.1, hls, hg.2.1.ho⟩ hf hm
  obtain ⟨l4, w4⟩ := cp4_LW (n := 175 + 9 * t) (air := air) (fall := fall) (by omega) hg.2.2.1 hw
  have c6 := cp6_til x air fall (nt x 13 0)
  have c7 := cp7_rea (fall := fall) (air := air) e6 (nt x 19 0)
  have hb13 : nt x 13 0 < 11 := hg.1.h13.2
  have hb19 : nt x 19 0 < 11 := hg.1.h19.2
  -- what a month changes
  have kA : ∀ f, f ∉ [1, 2, 3, 4, 6, 9, 10, 11, 17, 23] → (cpaF x air fall).1 f = x.1 f := by
    intro f hf
    have h1 : f ≠ 1 := fun e => hf (by rw [e]; decide)
    have a5 := (k5.mono (m := [1, 2, 3, 4, 6, 9, 10, 11, 17, 23]) (by decide)) f hf
    have a6 := (k6.mono (m := [1, 2, 3, 4, 6, 9, 10, 11, 17, 23]) (by decide)) f hf
    have a7 := (k7.mono (m := [1, 2, 3, 4, 6, 9, 10, 11, 17, 23]) (by decide)) f hf
    exact (sI_ne _ 1 0 _ h1).trans (a7.trans (a6.trans a5))
  have k4 : ∀ f, f ∉ [1, 11, 17, 23] → (cpaF x air fall).1 f = (cp4 x air fall).1 f := by
    intro f hf
    have h1 : f ≠ 1 := fun e => hf (by rw [e]; decide)
    have a5 := (k11.mono (m := [1, 11, 17, 23]) (by decide)) f hf
    have a6 := (k6.mono (m := [1, 11, 17, 23]) (by decide)) f hf
    have a7 := (k7.mono (m := [1, 11, 17, 23]) (by decide)) f hf
    exact (sI_ne _ 1 0 _ h1).trans (a7.trans (a6.trans a5))
  have z11 : (cpaF x air fall).1 11 = (cp5 x air fall 25).1 11 := (sI_ne _ 1 0 _ (by decide)).trans ((k7 11 (by decide)).trans (k6 11 (by decide)))
  have z17 : ∀ h, nt x 13 0 ≤ h → (cpaF x air fall).1 17 h = x.1 17 h := by
    intro h hh
    have a : (cpaF x air fall).1 17 = (cp6 x air fall (nt x 13 0)).1 17 := (sI_ne _ 1 0 _ (by decide)).trans (k7 17 (by decide))
    rw [a, c6, til_17 _ _ h hh, k5 17 (by decide)]
  have z23 : ∀ i, (∀ b k, b < nt x 19 0 → k < 5 → i ≠ 3000 * b + 5 * nt x 1 0 + k) → (cpaF x air fall).1 23 i = x.1 23 i := by
    intro i hi
    have a : (cpaF x air fall).1 23 = (cp7 x air fall (nt x 19 0)).1 23 := sI_ne _ 1 0 _ (by decide)
    rw [a, c7, (reaB_23 e6 (nt x 19 0) hi).1, k6 23 (by decide), k5 23 (by decide)]
  generalize cpaF x air fall = y at kA k4 z11 z17 z23 go gl gm ⊢
  have n : ∀ f k, f ∉ [1, 2, 3, 4, 6, 9, 10, 11, 17, 23] → nt y f k = nt x f k := fun f k hf => by unfold nt; rw [kA f hf]
  refine ⟨⟨⟨go, HR_cg (n 13 0 (by decide)) (kA 52 (by decide)) (kA 14 (by decide)) (kA 18 (by decide)) (by omega) hg.2.1, LK_cg (k4 8 (by decide)) (k4 9 (by decide)) l4, fun j hj => ?_⟩, gl, cap_of (fun i => by rw [kA 54 (by decide)]) hcp, ?_, WV_cg (k4 3 (by decide)) (k4 9 (by decide)) w4, ?_⟩, gm⟩
  · rw [z11, gm]
    exact b11 j hj
  · refine CR_cg (n 24 0 (by decide)) (kA 40 (by decide)) (Nat.le_of_eq (n 13 0 (by decide)).symm) (kA 42 (by decide)) (by omega) (kA 25 (by decide)) (kA 41 (by decide)) (fun k tl t hk ht => ?_) hc
    have hp : nt x 15 k < 5 := (hg.1.h15 (c := k) (by omega)).2
    refine cdue_cg (n 18 k (by decide)) (fun m hmt => ?_)
    rw [n 19 0 (by decide)]
    refine cduZ_cg _ (fun b hb => cduB_cg (n 20 b (by decide)) (n 14 k (by decide)) (by rw [kA 22 (by decide)]) (n 15 k (by decide)) (fun _ => z23 _ (fun b2 k2 h1 h2 => by omega)) hmt)
  · exact ZR_cg (Nat.le_of_eq (n 13 0 (by decide)).symm) (Nat.le_of_eq (n 19 0 (by decide)).symm) (fun k hk => z17 k (by rw [n 13 0 (by decide)] at hk; exact hk)) (fun b j hb hj => z23 _ (fun b2 k2 h1 h2 => by rw [n 19 0 (by decide)] at hb; omega)) hz
/-- many months of both -/
theorem months_eqw {x y : St} {air fall : Int32} {t n : Nat} (ht : t ≤ 64) (h : eqw x y) (hI : Inv t x) (hf : okN fall 10) (ha1 : -50 ≤ air.toInt) (ha2 : air.toInt ≤ 30) (hm : nt x 1 0 + n ≤ 600) : ∀ i, i ≤ n → eqw (psL x air fall i) (pasL y air fall i) ∧ Inv t (psL x air fall i) ∧ nt (psL x air fall i) 1 0 = nt x 1 0 + i := by
  intro i
  induction i with
  | zero => intro _; exact ⟨h, hI, rfl⟩
  | succ i ih =>
    intro hi
    obtain ⟨h1, h2, h3⟩ := ih (by omega)
    rw [psL_s, pasL_s]
    obtain ⟨h4, h5⟩ := month_inv (air := air) ht h2 hf (by omega)
    exact ⟨month_eqw h1 h2.1 hf ha1 ha2 (by omega), h4, by omega⟩
