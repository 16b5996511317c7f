/-! PLAIN LAWS: the reference's steps keep what is shared; a month of both -/
set_option maxRecDepth 100000
theorem eqw_it {f : St → Nat → St} (hf : ∀ a b k, eqw a b → eqw (f a k) (f b k)) {x y : St} (h : eqw x y) : ∀ n, eqw (it f x n) (it f y n) := by
  intro n
  induction n with
  | zero => exact h
  | succ n ih => exact hf _ _ n ih
theorem eqw_if {c : Prop} [Decidable c] {a b a2 b2 : St} (h : eqw a b) (h2 : eqw a2 b2) : eqw (if c then a else a2) (if c then b else b2) := by
  by_cases hc : c
  · rw [if_pos hc, if_pos hc]; exact h
  · rw [if_neg hc, if_neg hc]; exact h2
theorem eqw.deg {x y : St} (h : eqw x y) : degF x = degF y := by
  funext k
  exact deg_cg (by rw [h.k (f := 8) rfl]) (by rw [h.k (f := 9) rfl]) (by rw [h.k (f := 10) rfl])
theorem eqw.lak {x y : St} (h : eqw x y) : lakF x = lakF y := by
  funext k
  unfold lakF
  rw [h.k (f := 3) rfl]
theorem sin_cg (x y : St) (k : Nat) (h : eqw x y) : eqw (sinF x k) (sinF y k) := by
  have hg : sinG x k = sinG y k := by
    unfold sinG melF
    rw [h.k (f := 8) rfl, h.k (f := 9) rfl, h.k (f := 10) rfl]
  unfold sinF
  rw [hg, h.k (f := 9) rfl, h.k (f := 10) rfl, h.k (f := 2) rfl, h.k (f := 3) rfl]
  exact (((h.sI 9 k rfl).sI 10 k rfl).sI 2 _ rfl).sI 3 _ rfl
theorem flo_cg (x y : St) (c : Nat) (h : eqw x y) : eqw (floF x c) (floF y c) := by
  have hb : floB x = floB y := by
    funext b n
    unfold floB floT levF
    rw [h.k (f := 2) rfl, h.k (f := 3) rfl]
  have hs : bstF x c 4 = bstF y c 4 := by
    unfold bstF
    rw [hb]
  unfold floF
  rw [hs, h.k (f := 2) rfl, h.k (f := 3) rfl]
  refine eqw_if h ?_
  have h2 := h.sI 3 c (v := y.1 3 c - lesF (y.1 3 c) ((y.1 2 c + y.1 3 c - y.1 2 (bstF y c 4).toNatClampNeg - y.1 3 (bstF y c 4).toNatClampNeg) / 2)) rfl
  exact h2.sI 3 _ (by rw [h2.k (f := 3) rfl])
theorem cld_cg (x y : St) (h : eqw x y) (n : Nat) : cldN x n = cldN y n := by
  unfold cldN
  rw [h.deg]
theorem cra_cg (x y : St) (h : eqw x y) : eqw (craF x) (craF y) := by
  have hW : ∀ b, eqw (craW x b) (craW y b) := fun b => h.sI 6 b (by rw [h.k (f := 6) rfl])
  unfold craF
  rw [cld_cg x y h, h.deg, h.k (f := 3) rfl, h.k (f := 9) rfl, h.k (f := 2) rfl, h.k (f := 10) rfl]
  exact eqw_if (eqw_if (hW _) (eqw_if (hW _) (((((hW _).sI 3 _ rfl).sI 9 _ rfl).sI 2 _ rfl).sI 10 _ rfl))) h
theorem wakL_cg (x y : St) (c k : Nat) (h : eqw x y) : eqw (wakL x c k) (wakL y c k) := by
  have hw : wokF x k = wokF y k := by
    unfold wokF
    rw [h.deg, h.k (f := 11) rfl]
  rw [wakL_e, wakL_e, hw, h.deg, h.lak, h.k (f := 11) rfl, h.2]
  exact eqw_if h (eqw_if ((h.sI 11 k rfl).sL 30 rfl) ((h.sI 11 k rfl).sL 31 rfl))
theorem wak_cg (air : Int32) (x y : St) (c : Nat) (h : eqw x y) : eqw (wakF x c air) (wakF y c air) := by
  have hM : eqw (wakM x c 5) (wakM y c 5) := eqw_it (f := fun y i => wakL y c (5 * c + i)) (fun a b k hab => wakL_cg a b c _ hab) h 5
  unfold wakF
  generalize wakM x c 5 = a at hM
  generalize wakM y c 5 = b at hM
  rw [hM.lak, hM.k (f := 5) rfl, hM.2]
  have h3 := hM.sL 30 (v := b.2 30 - (b.1 5 c).toInt64) rfl
  exact eqw_if hM (eqw_if (h3.sI 11 _ (by rw [h3.k (f := 11) rfl, h3.k (f := 5) rfl])) hM)
theorem til_cg (x y : St) (k : Nat) (h : eqw x y) : eqw (tilF x k) (tilF y k) := by
  unfold tilF
  rw [h.nt (f := 14) rfl, h.nt (f := 15) rfl, h.k (f := 10) rfl, h.k (f := 17) rfl]
  exact h.sI 17 k rfl
theorem rea_cg (b : Nat) (x y : St) (k : Nat) (h : eqw x y) : eqw (reaF b x k) (reaF b y k) := by
  unfold reaF
  rw [h.nt (f := 1) rfl, h.nt (f := 20) rfl, h.deg, h.k (f := 21) rfl, h.k (f := 22) rfl]
  exact h.sI 23 _ rfl
theorem reaB_cg (x y : St) (b : Nat) (h : eqw x y) : eqw (reaB x b) (reaB y b) := eqw_it (f := reaF b) (fun p q k hpq => rea_cg b p q k hpq) h 5
/-! the class's heat keeps what is shared -/
theorem ledW_fn {w w' : St} {k : Nat} {a : Int32} (h8 : w'.1 8 = w.1 8) (h9 : w'.1 9 = w.1 9) (h10 : w'.1 10 = w.1 10) : ∀ l j, ledW w' k a l j = ledW w k a l j := by
  have hF : ∀ j, hFF w' j = hFF w j := by
    intro j
    unfold hFF
    rw [deg_cg (k := j) (by rw [h8]) (by rw [h9]) (by rw [h10]), deg_cg (k := j + 1) (by rw [h8]) (by rw [h9]) (by rw [h10])]
  intro l
  induction l with
  | zero => intro j; rw [ledW_0, ledW_0, h10]
  | succ l ih => intro j; rw [ledW_s, ledW_s, h10, hF, ih, ih]
theorem led_cg (x y : St) (k : Nat) (air : Int32) (h : eqw x y) : eqw (ledF x k air) (ledF y k air) ∧ ledT x k air + ledO x k air = ledT y k air + ledO y k air := by
  have hT : ledT x k air = ledT y k air := by
    unfold ledT clkF
    rw [cdeg_deg, cdeg_deg, h.deg, h.k (f := 3) rfl, h.k (f := 4) rfl, h.k (f := 5) rfl]
  have hO : ledO x k air = ledO y k air := by
    unfold ledO chtF nt
    rw [h.k (f := 52) rfl, h.k (f := 16) rfl]
  have hs : ledT x k air + ledO x k air = ledT y k air + ledO y k air := by rw [hT, hO]
  refine ⟨⟨fun f a => ?_, h.2⟩, hs⟩
  funext j
  rw [led_P, led_P, hs]
  by_cases hf : f = 10
  · rw [if_pos hf, if_pos hf]
    unfold hcW
    rw [ledW_fn (h.k (f := 8) rfl) (h.k (f := 9) rfl) (h.k (f := 10) rfl), ledW_fn (h.k (f := 8) rfl) (h.k (f := 9) rfl) (h.k (f := 10) rfl)]
  · rw [if_neg hf, if_neg hf, h.1 f a]
theorem cp1_cg (x y : St) (air fall : Int32) (h : eqw x y) : ∀ i, eqw (cp1 x air fall i) (cp1 y air fall i) := by
  intro i
  induction i with
  | zero => exact h
  | succ i h1 =>
    rw [cp1_s, cp1_s]
    generalize cp1 x air fall i = a at h1
    generalize cp1 y air fall i = b at h1
    have hw : eqw (csnF air fall a i) (csnF air fall b i) := h1.sI 4 i (by rw [h1.k (f := 4) rfl])
    unfold cp1S
    generalize csnF air fall a i = p at hw
    generalize csnF air fall b i = q at hw
    obtain ⟨e1, e2⟩ := led_cg p q i air hw
    rw [e2, hw.2]
    exact e1.sL _ rfl
/-! a month -/
def CB (x : St) : Prop := ∀ j, j < 125 → okN (x.1 11 j) (1001 + 3 * nt x 1 0)
def LK (x : St) : Prop := ∀ k, k < 125 → layK x k
def MG (x : St) : Prop := okM x ∧ HR x ∧ LK x ∧ CB x
theorem LK_cg {x y : St} (h8 : y.1 8 = x.1 8) (h9 : y.1 9 = x.1 9) (h : LK x) : LK y := by
  intro k hk
  have := h k hk
  unfold layK at this ⊢
  rw [h8, h9]
  exact this
/-- what a month of the class is, said with the reference's steps -/
theorem cp2_sin {x : St} {air fall : Int32} (hk : LK x) : cp2 x air fall 25 = it sinF (cp1 x air fall 25) 125 ∧ LK (cp2 x air fall 25) := by
  have hc := (cp1_P x air fall 25 (Nat.le_refl _)).1
  have hk1 : LK (cp1 x air fall 25) := LK_cg (hc 8 (by decide) (by decide)) (hc 9 (by decide) (by decide)) hk
  have e : cp2 x air fall 25 = it sinF (cp1 x air fall 25) 125 := cml_sin hk1 25 (Nat.le_refl _)
  refine ⟨e, ?_⟩
  rw [e]
  exact layK_sinL hk1 125 (Nat.le_refl _)
theorem cp4_cra (x : St) (air fall : Int32) : cp4 x air fall = if (-20) < air then it floF (cp2 x air fall 25) 25 else craF (it floF (cp2 x air fall 25) 25) := by
  have e : cp3 x air fall 25 = it floF (cp2 x air fall 25) 25 := cfw_floL _ 25 (Nat.le_refl _)
  unfold cp4
  rw [e, ccr_cra]
/-! which fields a step changes -/
def ko (l : List Nat) (x y : St) : Prop := ∀ f, f ∉ l → y.1 f = x.1 f
theorem ko.rf {l : List Nat} (x : St) : ko l x x := fun _ _ => rfl
theorem ko.tr {l : List Nat} {x y z : St} (h : ko l x y) (h2 : ko l y z) : ko l x z := fun f hf => (h2 f hf).trans (h f hf)
theorem ko_sI {l : List Nat} {x : St} {f k : Nat} {v : Int32} (hf : f ∈ l) : ko l x (sI x f k v) := fun h hh => sI_ne x f k v (fun e => hh (by rw [e]; exact hf))
theorem ko_sL {l : List Nat} {x : St} {f : Nat} {v : Int64} : ko l x (sL x f v) := fun _ _ => rfl
theorem ko_it {l : List Nat} {f : St → Nat → St} (h : ∀ y k, ko l y (f y k)) (x : St) (n : Nat) : ko l x (it f x n) := by
  induction n with
  | zero => exact ko.rf x
  | succ n ih => exact ih.tr (h _ _)
theorem ko_if {l : List Nat} {c : Prop} [Decidable c] {x a b : St} (ha : ko l x a) (hb : ko l x b) : ko l x (if c then a else b) := by
  split
  · exact ha
  · exact hb
theorem ko.n {l : List Nat} {x y : St} (h : ko l x y) {f : Nat} (hf : f ∉ l) (k : Nat) : nt y f k = nt x f k := by
  show (y.1 f k).toNatClampNeg = _
  rw [h f hf]
  rfl
theorem ko.mono {l m : List Nat} {x y : St} (h : ko l x y) (hm : ∀ f, f ∈ l → f ∈ m) : ko m x y := fun f hf => h f (fun q => hf (hm f q))
theorem ko_sin (x : St) (k : Nat) : ko [2, 3, 6, 9, 10] x (sinF x k) := (((ko_sI (by decide)).tr (ko_sI (by decide))).tr (ko_sI (by decide))).tr (ko_sI (by decide))
theorem ko_flo (x : St) (k : Nat) : ko [2, 3, 6, 9, 10] x (floF x k) := ko_if (ko.rf x) ((ko_sI (by decide)).tr (ko_sI (by decide)))
theorem ko_cra (x : St) : ko [2, 3, 6, 9, 10] x (craF x) := ko_if (ko_if (ko_sI (by decide)) (ko_if (ko_sI (by decide)) ((((ko_sI (f := 6) (by decide)).tr (ko_sI (by decide))).tr (ko_sI (by decide))).tr (ko_sI (by decide))).tr (ko_sI (by decide))))) (ko.rf x)
theorem ko_til (x : St) (k : Nat) : ko [17] x (tilF x k) := ko_sI (by decide)
theorem ko_reaB (x : St) (b : Nat) : ko [23] x (reaB x b) := ko_it (f := reaF b) (fun y k => show ko [23] y (sI y 23 _ _) from ko_sI (by decide)) x 5
theorem ko_cp1 (x : St) (air fall : Int32) : ko [4, 10] x (cp1 x air fall 25) := fun f hf => (cp1_P x air fall 25 (Nat.le_refl _)).1 f (fun e => hf (by rw [e]; decide)) (fun e => hf (by rw [e]; decide))
theorem ko_cp4 {x : St} {air fall : Int32} (hk : LK x) : ko [2, 3, 4, 6, 9, 10] x (cp4 x air fall) := by
  have h1 : ko [2, 3, 4, 6, 9, 10] x (cp1 x air fall 25) := (ko_cp1 x air fall).mono (by decide)
  have h2 : ko [2, 3, 6, 9, 10] (cp1 x air fall 25) (cp4 x air fall) := by
    rw [cp4_cra, (cp2_sin hk).1]
    exact ko_if ((ko_it ko_sin _ 125).tr (ko_it ko_flo _ 25)) (((ko_it ko_sin _ 125).tr (ko_it ko_flo _ 25)).tr (ko_cra _))
  exact h1.tr (h2.mono (by decide))
theorem cp5_wak {x : St} {air fall : Int32} (hg : MG x) (hm : nt x 1 0 < 600) : cp5 x air fall 25 = it (fun y c => wakF y c air) (cp4 x air fall) 25 ∧ ko [11] (cp4 x air fall) (cp5 x air fall 25) ∧ ∀ j, j < 125 → okN ((cp5 x air fall 25).1 11 j) (1001 + 3 * (nt x 1 0 + 1)) := by
  obtain ⟨hok, -, hk, hb⟩ := hg
  have h4 := ko_cp4 (air := air) (fall := fall) hk
  obtain ⟨a1, a2, -, a4⟩ := cli_wakL (y := cp4 x air fall) (B := 1001 + 3 * nt x 1 0) (air := air) (by omega) (fun j hj => by rw [h4 11 (by decide)]; exact hb j hj) (fun c hc => by rw [h4 5 (by decide)]; exact hok.h5 hc) 25 (Nat.le_refl _)
  have e : cp5 x air fall 25 = it (fun y c => wakF y c air) (cp4 x air fall) 25 := a1
  refine ⟨e, ?_, ?_⟩
  · rw [e]
    exact fun f hf => a2 f (fun q => hf (by rw [q]; decide))
  · rw [e]
    intro j hj
    exact okN_le (a4 j hj) (by omega)
theorem cp6_til (x : St) (air fall : Int32) (n : Nat) : cp6 x air fall n = it tilF (cp5 x air fall 25) n := by
  have e : cstF = tilF := by
    funext y h
    exact cst_til y h
  unfold cp6
  rw [e]
theorem cp7_rea {x : St} {air fall : Int32} (h1 : nt (cp6 x air fall (nt x 13 0)) 1 0 = nt x 1 0) : ∀ n, cp7 x air fall n = it reaB (cp6 x air fall (nt x 13 0)) n := by
  intro n
  induction n with
  | zero => exact (it_zero _ _).trans (it_zero _ _).symm
  | succ n ih =>
    rw [cp7_s, it_succ, ih]
    have e : nt (it reaB (cp6 x air fall (nt x 13 0)) n) 1 0 = nt x 1 0 := ((ko_it ko_reaB _ n).n (by decide) 0).trans h1
    exact crd_rea _ n _ e.symm
theorem ko_cpa {x : St} {air fall : Int32} (hg : MG x) (hm : nt x 1 0 < 600) : ko [2, 3, 4, 6, 9, 10, 11] x (cp5 x air fall 25) ∧ ko [17] (cp5 x air fall 25) (cp6 x air fall (nt x 13 0)) ∧ ko [23] (cp6 x air fall (nt x 13 0)) (cp7 x air fall (nt x 19 0)) ∧ nt (cp6 x air fall (nt x 13 0)) 1 0 = nt x 1 0 ∧ nt (cp7 x air fall (nt x 19 0)) 1 0 = nt x 1 0 := by
  have h1 : ko [2, 3, 4, 6, 9, 10, 11] x (cp5 x air fall 25) := ((ko_cp4 hg.2.2.1).mono (by decide)).tr ((cp5_wak hg hm).2.1.mono (by decide))
  have h2 : ko [17] (cp5 x air fall 25) (cp6 x air fall (nt x 13 0)) := by
    rw [cp6_til]
    exact ko_it ko_til _ _
  have e1 : nt (cp6 x air fall (nt x 13 0)) 1 0 = nt x 1 0 := (h2.n (by decide) 0).trans (h1.n (by decide) 0)
  have h3 : ko [23] (cp6 x air fall (nt x 13 0)) (cp7 x air fall (nt x 19 0)) := by
    rw [cp7_rea e1]
    exact ko_it ko_reaB _ _
  exact ⟨h1, h2, h3, e1, (h3.n (by decide) 0).trans e1⟩
theorem okF_dk {f : Nat} (h : okF f = true) : dk f = false := by
  by_cases hb : f < 60
  · have key : ∀ f, f < 60 → okF f = true → dk f = false := by decide
    exact key f hb h
  · unfold okF at h
    simp only [Bool.or_eq_true, beq_iff_eq] at h
    omega
theorem eqw.ok {x y : St} (h : eqw x y) (ho : okM x) : okM y := kq.ok (fun f hf => (h.1 f (okF_dk hf)).symm) ho
theorem HR_cg {x y : St} (e13 : nt y 13 0 = nt x 13 0) (e52 : y.1 52 = x.1 52) (e14 : y.1 14 = x.1 14) (e18 : y.1 18 = x.1 18) (e1 : nt x 1 0 ≤ nt y 1 0) (h : HR x) : HR y := by
  obtain ⟨h1, h2, h3⟩ := h
  have n14 : ∀ k, nt y 14 k = nt x 14 k := fun k => by unfold nt; rw [e14]
  have n52 : ∀ k, nt y 52 k = nt x 52 k := fun k => by unfold nt; rw [e52]
  have n18 : ∀ k, nt y 18 k = nt x 18 k := fun k => by unfold nt; rw [e18]
  refine ⟨fun k hk => ?_, fun c hc => ?_, fun k hk => ?_⟩
  · rw [n14, e52]
    exact h1 k (by omega)
  · rw [n52, n14, e52, e13]
    exact h2 c hc
  · rw [n18]
    exact Nat.le_trans (h3 k hk) e1
theorem eqw.hr {x y : St} (h : eqw x y) (hr : HR x) : HR y := HR_cg (h.nt rfl 0).symm (h.k rfl).symm (h.k rfl).symm (h.k rfl).symm (Nat.le_of_eq (h.nt rfl 0)) hr
/-- a month of both, side by side -/
theorem month_eqw {x y : St} {air fall : Int32} (h : eqw x y) (hg : MG x) (hf : okN fall 10) (ha1 : -50 ≤ air.toInt) (ha2 : air.toInt ≤ 30) (hm : nt x 1 0 < 600) : eqw (cpaF x air fall) (pasF y air fall) := by
  obtain ⟨k5, k6, k7, e6, e7⟩ := ko_cpa (air := air) (fall := fall) hg hm
  have w5 := (cp5_wak (air := air) (fall := fall) hg hm).1
  obtain ⟨hok, hr, hk, hb⟩ := hg
  have h1 : eqw (cp1 x air fall 25) (hetF (pa1 y air fall 25) air) := (cp1_cg x y air fall h 25).tr (heat_eqv (h.ok hok) (h.hr hr) hf ha1 ha2)
  have h2 : eqw (cp2 x air fall 25) (pa3 y air fall 125) := by
    rw [(cp2_sin hk).1]
    exact eqw_it (f := sinF) sin_cg h1 125
  have h3 : eqw (it floF (cp2 x air fall 25) 25) (pa4 y air fall 25) := eqw_it (f := floF) flo_cg h2 25
  have h4 : eqw (cp4 x air fall) (pa5 y air fall) := by
    rw [cp4_cra]
    exact eqw_if h3 (cra_cg _ _ h3)
  have h5 : eqw (cp5 x air fall 25) (pa6 y air fall 25) := by
    rw [w5]
    exact eqw_it (f := fun y c => wakF y c air) (fun a b k hab => wak_cg air a b k hab) h4 25
  have h6 : eqw (cp6 x air fall (nt x 13 0)) (pa7 y air fall (nt y 13 0)) := by
    rw [cp6_til, ← h.nt (f := 13) rfl 0]
    exact eqw_it (f := tilF) til_cg h5 _
  have h7 : eqw (cp7 x air fall (nt x 19 0)) (pa8 y air fall (nt y 19 0)) := by
    rw [cp7_rea e6, ← h.nt (f := 19) rfl 0]
    exact eqw_it (f := reaB) reaB_cg h6 _
  unfold cpaF pasF
  refine h7.sI 1 0 ?_
  rw [← h7.nt (f := 1) rfl 0, e7]
