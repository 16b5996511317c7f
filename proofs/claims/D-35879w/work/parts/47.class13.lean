/-! the land's own methods: cracking, a month, pass -/
set_option maxRecDepth 100000
/-- what a month changes, but the snow -/
def cH (f : Nat) : Bool := f == 2 || f == 3 || f == 6 || f == 8 || f == 9 || f == 10 || f == 11 || f == 17 || f == 23
def cq (x y : St) : Prop := ∀ f, cH f = false → y.1 f = x.1 f
def cp (x y : St) : Prop := ∀ f, cH f = false → f ≠ 4 → y.1 f = x.1 f
theorem cq.rf (x : St) : cq x x := fun _ _ => rfl
theorem cp.rf (x : St) : cp x x := fun _ _ _ => rfl
theorem cq.tr {x y z : St} (h : cq x y) (h2 : cq y z) : cq x z := fun f hf => (h2 f hf).trans (h f hf)
theorem cp.tr {x y z : St} (h : cp x y) (h2 : cp y z) : cp x z := fun f hf h4 => (h2 f hf h4).trans (h f hf h4)
theorem cq.p {x y : St} (h : cq x y) : cp x y := fun f hf _ => h f hf
theorem okF_cH {f : Nat} (h : okF f = true) : cH f = false := by
  by_cases hb : f < 25
  · have key : ∀ f, f < 25 → okF f = true → cH f = false := by decide
    exact key f hb h
  · unfold okF at h
    simp only [Bool.or_eq_true, beq_iff_eq] at h
    omega
theorem cq.ok {x y : St} (h : cq x y) (ho : okM x) : okM y := kq.ok (fun f hf => h f (okF_cH hf)) ho
theorem cp.n {x y : St} (h : cp x y) {f : Nat} (hf : cH f = false) (h4 : f ≠ 4) (k : Nat) : nt y f k = nt x f k := by show (y.1 f k).toNatClampNeg = _; rw [h f hf h4]; rfl
theorem cq_sI {x : St} {f k : Nat} {v : Int32} (hf : cH f = true) : cq x (sI x f k v) := fun h hh => sI_ne x f k v (fun e => by rw [e, hf] at hh; cases hh)
theorem cq_sL {x : St} {f : Nat} {v : Int64} : cq x (sL x f v) := fun _ _ => rfl
theorem cq_it {f : St → Nat → St} (h : ∀ y k, cq y (f y k)) (x : St) (n : Nat) : cq x (it f x n) := by
  induction n with
  | zero => exact cq.rf x
  | succ n ih => exact ih.tr (h _ _)
theorem cq_if {c : Prop} [Decidable c] {x a b : St} (ha : cq x a) (hb : cq x b) : cq x (if c then a else b) := by
  split
  · exact ha
  · exact hb
theorem cp.cnt {x y : St} (h : cp x y) (i : Nat) : cCnt y i = cCnt x i := by
  unfold cCnt
  rw [h 13 rfl (by decide), h 19 rfl (by decide), h 24 rfl (by decide)]
theorem cp.ls {x y : St} (h : cp x y) (hls : lsOK x) : lsOK y := by
  intro i hi
  obtain ⟨h1, h2, h3⟩ := hls i hi
  have e1 : cN y i = cN x i := by unfold cN; rw [h.cnt]
  have e2 : nt y 54 i = nt x 54 i := h.n rfl (by decide) i
  rw [e1, e2, h.cnt]
  exact ⟨h1, h2, h3⟩
def hoOK (x : St) : Prop := ∀ c, c < 25 → ¬ x.1 52 c = (-1) → nt x 52 c < nt x 13 0
theorem cp.ho {x y : St} (h : cp x y) (hho : hoOK x) : hoOK y := by
  intro c hc hn
  rw [h 52 rfl (by decide)] at hn
  rw [h.n rfl (by decide) c (f := 52), h.n rfl (by decide) 0 (f := 13)]
  exact hho c hc hn
theorem jmin_les (a b : Int32) : jmin a b = lesF a b := by
  unfold jmin lesF
  by_cases h : b < a
  · rw [if_pos h, if_pos (Int32.le_of_lt h)]
  · rw [if_neg h]
    by_cases h2 : b ≤ a
    · rw [if_pos h2]
      exact (Int32.le_antisymm h2 (Int32.not_lt.mp h)).symm
    · rw [if_neg h2]
theorem cq_led (x : St) (k : Nat) (air : Int32) : cq x (ledF x k air) := by
  have hs : ∀ (q : St × Int32) (l : Nat), cq q.1 (ledS k q l).1 := fun q l => (cq_sI rfl).tr (cq_sI rfl)
  have ha : cq x (ledA x k air) := cq_sI rfl
  have hq : cq x (ledQ x k air).1 := ((((ha.tr (hs _ 1)).tr (hs _ 2)).tr (hs _ 3)).tr (hs _ 4))
  exact hq.tr (cq_sI rfl)
theorem cq_cml (x : St) (k : Nat) : cq x (cmlF x k) := by
  have hs : ∀ (y : St) (l : Nat), cq y (cmlS k y l) := fun y l => ((cq_sI rfl).tr (cq_sI rfl)).tr ((cq_sI rfl).tr (cq_sI rfl))
  exact ((((hs x 0).tr (hs _ 1)).tr (hs _ 2)).tr (hs _ 3)).tr (hs _ 4)
theorem cq_cfw (x : St) (k : Nat) : cq x (cfwF x k) := (cq_sI rfl).tr (cq_sI rfl)
theorem cq_ccr (x : St) (k : Nat) : cq x (ccrF x k) := cq_if (cq_sI rfl) (cq_if (cq_sI rfl) ((cq_sI rfl).tr ((cq_sI rfl).tr ((cq_sI rfl).tr ((cq_sI rfl).tr (cq_sI rfl))))))
theorem cq_cli (x : St) (k : Nat) (air : Int32) : cq x (cliF x k air) := by
  have h1 : ∀ j, cq x (cliL j k x 5) := fun j => cq_it (fun y l => (show cq y (cwkF y (5 * k + l)) from cq_sI rfl).tr cq_sL) x 5
  have h2 : ∀ y, cq y (cliE y k air) := fun y => cq_if (cq.rf y) (cq_if (cq_sL.tr (cq_sI rfl)) (cq.rf y))
  exact (h1 _).tr (h2 _)
theorem cq_cst (x : St) (h : Nat) : cq x (cstF x h) := cq_sI rfl
theorem cq_crd (x : St) (b mo : Nat) : cq x (crdF x b mo) := cq_it (f := crdS b mo) (fun y l => show cq y (sI y 23 _ _) from cq_sI rfl) x 5
/-- the coldest cell -/
def cclN (x : St) : Nat → Nat := it (fun b i => if cdeg x (5 * b + 1) ≤ cdeg x (5 * i + 1) then b else i) 0
theorem cclN_s (x : St) (i : Nat) : cclN x (i + 1) = if cdeg x (5 * cclN x i + 1) ≤ cdeg x (5 * i + 1) then cclN x i else i := it_succ _ _ _
theorem cclN_lt (x : St) : ∀ i, i ≤ 25 → cclN x i < 25 := by
  intro i
  induction i with
  | zero => intro _; exact Nat.le_of_ble_eq_true rfl
  | succ i ih =>
    intro h
    rw [cclN_s]
    split
    · exact ih (by omega)
    · omega
def csnF (air fall : Int32) (y : St) (c : Nat) : St := sI y 4 c (if 0 ≤ air then 0 else jmin 9 (y.1 4 c + fall))
theorem csn_sno (air fall : Int32) (y : St) (c : Nat) : csnF air fall y c = snoF air fall y c := by
  unfold csnF snoF
  rw [jmin_les]
def cp1S (air fall : Int32) (y : St) (c : Nat) : St := sL (ledF (csnF air fall y c) c air) (26 + 0) ((csnF air fall y c).2 (26 + 0) + (ledT (csnF air fall y c) c air + ledO (csnF air fall y c) c air + 10).toInt64)
def cp1 (x : St) (air fall : Int32) : Nat → St := it (cp1S air fall) x
def cp2 (x : St) (air fall : Int32) : Nat → St := it cmlF (cp1 x air fall 25)
def cp3 (x : St) (air fall : Int32) : Nat → St := it cfwF (cp2 x air fall 25)
def cp4 (x : St) (air fall : Int32) : St := if (-20) < air then cp3 x air fall 25 else (if cdeg (cp3 x air fall 25) (5 * cclN (cp3 x air fall 25) 25 + 1) ≤ (-10) then ccrF (cp3 x air fall 25) (cclN (cp3 x air fall 25) 25) else cp3 x air fall 25)
def cp5 (x : St) (air fall : Int32) : Nat → St := it (fun y c => cliF y c air) (cp4 x air fall)
def cp6 (x : St) (air fall : Int32) : Nat → St := it cstF (cp5 x air fall 25)
def cp7 (x : St) (air fall : Int32) : Nat → St := it (fun y b => crdF y b (nt x 1 0)) (cp6 x air fall (nt x 13 0))
def cpaF (x : St) (air fall : Int32) : St := sI (cp7 x air fall (nt x 19 0)) 1 0 (nI (nt x 1 0 + 1))
theorem cp_csn (air fall : Int32) (y : St) (c : Nat) : cp y (csnF air fall y c) := fun f _ h4 => sI_ne y 4 c _ h4
theorem ok_csn {air fall : Int32} (hf : okN fall 10) {y : St} (ho : okM y) {c : Nat} (hc : c < 25) : okM (csnF air fall y c) := by rw [csn_sno]; exact ok_sno hf ho hc
theorem cp_cp1S (air fall : Int32) (y : St) (c : Nat) : cp y (cp1S air fall y c) := (cp_csn air fall y c).tr ((cq_led _ c air).tr cq_sL).p
theorem ok_cp1S {air fall : Int32} (hf : okN fall 10) {y : St} (ho : okM y) {c : Nat} (hc : c < 25) : okM (cp1S air fall y c) := ((cq_led _ c air).tr cq_sL).ok (ok_csn hf ho hc)
theorem cp_cp1 (x : St) (air fall : Int32) : ∀ i, cp x (cp1 x air fall i) := by
  intro i
  induction i with
  | zero => exact cp.rf x
  | succ i ih => exact ih.tr (cp_cp1S air fall _ i)
theorem ok_cp1 {x : St} {air fall : Int32} (hok : okM x) (hf : okN fall 10) : ∀ i, i ≤ 25 → okM (cp1 x air fall i) := by
  intro i
  induction i with
  | zero => intro _; exact hok
  | succ i ih => intro h; exact ok_cp1S hf (ih (by omega)) (by omega)
theorem cq_cp2 (x : St) (air fall : Int32) (n : Nat) : cq (cp1 x air fall 25) (cp2 x air fall n) := cq_it cq_cml _ n
theorem cq_cp3 (x : St) (air fall : Int32) (n : Nat) : cq (cp1 x air fall 25) (cp3 x air fall n) := (cq_cp2 x air fall 25).tr (cq_it cq_cfw _ n)
theorem cq_cp4 (x : St) (air fall : Int32) : cq (cp1 x air fall 25) (cp4 x air fall) := cq_if (cq_cp3 x air fall 25) (cq_if ((cq_cp3 x air fall 25).tr (cq_ccr _ _)) (cq_cp3 x air fall 25))
theorem cq_cp5 (x : St) (air fall : Int32) (n : Nat) : cq (cp1 x air fall 25) (cp5 x air fall n) := (cq_cp4 x air fall).tr (cq_it (fun _ _ => cq_cli _ _ _) _ n)
theorem cq_cp6 (x : St) (air fall : Int32) (n : Nat) : cq (cp1 x air fall 25) (cp6 x air fall n) := (cq_cp5 x air fall 25).tr (cq_it cq_cst _ n)
theorem cq_cp7 (x : St) (air fall : Int32) (n : Nat) : cq (cp1 x air fall 25) (cp7 x air fall n) := (cq_cp6 x air fall _).tr (cq_it (fun _ _ => cq_crd _ _ _) _ n)
theorem cp2_0 (x : St) (air fall : Int32) : cp1 x air fall 25 = cp2 x air fall 0 := show cp1 x air fall 25 = it cmlF (cp1 x air fall 25) 0 from (it_zero _ _).symm
theorem cp3_0 (x : St) (air fall : Int32) : cp2 x air fall 25 = cp3 x air fall 0 := show cp2 x air fall 25 = it cfwF (cp2 x air fall 25) 0 from (it_zero _ _).symm
theorem cp5_0 (x : St) (air fall : Int32) : cp4 x air fall = cp5 x air fall 0 := show cp4 x air fall = it (fun y c => cliF y c air) (cp4 x air fall) 0 from (it_zero _ _).symm
theorem cp6_0 (x : St) (air fall : Int32) : cp5 x air fall 25 = cp6 x air fall 0 := show cp5 x air fall 25 = it cstF (cp5 x air fall 25) 0 from (it_zero _ _).symm
theorem cp7_0 (x : St) (air fall : Int32) : cp6 x air fall (nt x 13 0) = cp7 x air fall 0 := show cp6 x air fall (nt x 13 0) = it (fun y b => crdF y b (nt x 1 0)) (cp6 x air fall (nt x 13 0)) 0 from (it_zero _ _).symm
theorem cp1_s (x : St) (air fall : Int32) (i : Nat) : cp1 x air fall (i + 1) = cp1S air fall (cp1 x air fall i) i := it_succ _ _ _
theorem cp2_s (x : St) (air fall : Int32) (i : Nat) : cp2 x air fall (i + 1) = cmlF (cp2 x air fall i) i := it_succ _ _ _
theorem cp3_s (x : St) (air fall : Int32) (i : Nat) : cp3 x air fall (i + 1) = cfwF (cp3 x air fall i) i := it_succ _ _ _
theorem cp5_s (x : St) (air fall : Int32) (i : Nat) : cp5 x air fall (i + 1) = cliF (cp5 x air fall i) i air := it_succ _ _ _
theorem cp6_s (x : St) (air fall : Int32) (i : Nat) : cp6 x air fall (i + 1) = cstF (cp6 x air fall i) i := it_succ _ _ _
theorem cp7_s (x : St) (air fall : Int32) (i : Nat) : cp7 x air fall (i + 1) = crdF (cp7 x air fall i) i (nt x 1 0) := it_succ _ _ _
abbrev pQn (g : GG) (A : Nat → Prop) (M' : MM) : Array Value → State → Outcome → State → Prop := va_Qq (fun (r : Option Nat) (_ : Unit) => r = none) (fun _ t => mW g.1 A M' t.heap) A
section NUL
variable {p : Program} {l : Launch} {e : Env} {R : Room} {s : State} {m : MethodId} {args : Array Value} {below : List Frame} {meth : Method} {c : Code} {H : Heap} {locs : List Loc} {cells slots : Nat} {Q : State → Prop}
variable {cc : ByteArray} {pc mc ms : Nat} {ls : Array Slot} {rest st : List Value} {g : GG} {A : Nat → Prop} {M' : MM} {aa : Array Value}
theorem m_aretN {rt : FieldType} (hx : p.tables.exec = Jvm.exec) (hb : c.code = cc) (hr : meth.sig.returnType = some rt) (hrt : (∃ n, rt = .object n) ∨ ∃ t, rt = .array t) (hlk : meth.locks = false) (hM : mW g.1 A M' H) (hS : va_S A s.heap H locs) (h1 : cells ≤ mc) (h2 : slots ≤ ms) (hdg : decode cc pc = .ok (.areturn, 1)) :
    W p l e R s m args below meth c H locs cells slots (MQ below (pQn g A M') args s mc ms A) (F0 m pc ls [.null]) := by
  refine W.widen h1 h2 ?_
  exact W.aret (v := .null) hx hb hr hrt (Or.inl rfl) (fun t ht hW => ⟨⟨none, (), rfl, rfl, by show mW g.1 A M' t.heap; rw [ht]; exact hM⟩, hS.F ht⟩) hS.2.2 hdg
theorem m_cpn (hr : va_Run p l e R s m args below meth c H locs cells slots mc ms (F0 m pc ls st) rest (pQn g A M' aa) A) (hS : va_S A s.heap H locs)
    (kk : ∀ (H1 : Heap) (locs1 : List Loc), mW g.1 A M' H1 → va_S A s.heap H1 locs1 → W p l e R s m args below meth c H1 locs1 (cells + mc) (slots + ms) Q (F0 m (pc + 3) ls (.null :: rest))) : W p l e R s m args below meth c H locs cells slots Q (F0 m pc ls st) :=
  va_callq hr hS (fun _ _ h => h) (fun _ h => h) (fun r u t H1 locs1 ht _ hp hB _ _ hS1 => by subst hp; exact kk H1 locs1 (by rw [← ht]; exact hB) hS1)
end NUL
def psL (x : St) (air fall : Int32) : Nat → St := it (fun y _ => cpaF y air fall) x
theorem psL_s (x : St) (air fall : Int32) (i : Nat) : psL x air fall (i + 1) = cpaF (psL x air fall i) air fall := it_succ _ _ _
def cGood (x : St) : Prop := okM x ∧ lsOK x ∧ hoOK x
theorem good_cpa {x : St} {air fall : Int32} (h : cGood x) (hf : okN fall 10) (hm : nt x 1 0 < 600) : cGood (cpaF x air fall) ∧ nt (cpaF x air fall) 1 0 = nt x 1 0 + 1 := by
  obtain ⟨hok, hls, hho⟩ := h
  have hc : cp x (cp7 x air fall (nt x 19 0)) := (cp_cp1 x air fall 25).tr (cq_cp7 x air fall _).p
  have ho : okM (cp7 x air fall (nt x 19 0)) := (cq_cp7 x air fall _).ok (ok_cp1 hok hf 25 (by omega))
  have hl := hc.ls hls
  have hh := hc.ho hho
  have e : (cpaF x air fall).1 1 0 = nI (nt x 1 0 + 1) := rfl
  refine ⟨⟨fun f k hb => ?_, fun i hi => hl i hi, fun c hc => hh c hc⟩, ?_⟩
  · by_cases h : f = 1 ∧ k = 0
    · obtain ⟨rfl, rfl⟩ := h
      rw [e]
      exact okN_nI (n := 601) (by omega) (by decide)
    · have e2 : (cpaF x air fall).1 f k = (cp7 x air fall (nt x 19 0)).1 f k := if_neg h
      rw [e2]
      exact ho f k hb
  · show ((cpaF x air fall).1 1 0).toNatClampNeg = _
    rw [e, nI_clamp (by omega)]
theorem good_psL {x : St} {air fall : Int32} {n : Nat} (h : cGood x) (hf : okN fall 10) (hm : nt x 1 0 + n ≤ 600) : ∀ i, i ≤ n → cGood (psL x air fall i) ∧ nt (psL x air fall i) 1 0 = nt x 1 0 + i := by
  intro i
  induction i with
  | zero => intro _; exact ⟨h, rfl⟩
  | succ i ih =>
    intro hi
    obtain ⟨h1, h2⟩ := ih (by omega)
    obtain ⟨h3, h4⟩ := good_cpa (air := air) h1 hf (by omega)
    rw [psL_s]
    exact ⟨h3, by omega⟩
def cpsW (a0 a1 a2 : Int32) : Int32 := (if (inF a0 1 24) = 0 then 0 else (if (inF a1 (-50) 30) = 0 then 0 else (if (inF a2 0 9) = 0 then 0 else 1)) : Int32)
def cpsV (x : St) (a0 : Int32) : Int32 := (if 600 < ((x.1 1 0) + a0) then 0 else 1 : Int32)
abbrev rm_X1_cracking_c : Room := { frames := 2, cells := 0, slots := 0, locals := 42 }
set_option maxHeartbeats 400000 in
theorem k_X1_cracking_c (l : Launch) (g : GG) (A : Nat → Prop) (ad : Nat → Nat → Nat) (Mx : MM) (x : St) (hc9 : cdeg x (5 * cclN x 25 + 1) ≤ (-10)) : Met l yX1_cracking (ws_ yX1_cracking cX1_cracking 6 (some (.object "Wakeground$Cell"))) rm_X1_cracking_c (va_Pc [.ref (ad 0 0)] (mPre g A (cwM g ad Mx x))) (pQr g A (ad 2 (cclN x 25)) (cwM g ad Mx x)) 0 0 A := by
  refine m_start RX1 rfl (by decide) (Nat.le_of_ble_eq_true rfl) ?_
  intro p e s m args below meth c hcf hr hlk hnm hE hA H locs hM hS ls hl
  have hx := hcf.1
  have hb := hcf.2.1
  have hml := hcf.2.2.1
  have hown := hcf.2.2.2.1
  have hts := hcf.2.2.2.2
  have hl : lv_has ls 6 [(0, .ref (ad 0 0))] := hl
  generalize hQ : MQ below (pQr g A (ad 2 (cclN x 25)) (cwM g ad Mx x)) args s 0 0 A = Q
  refine lv_aload_n hx hb dX1_cracking_0 rfl (lv_at hl 0 rfl) ?_
  refine m_get hx hb hts in_X1 hown hE hM 0 0 cw_0 (ci := 0) rfl 0 (by decide) (hts _ q178) (fun _ h9 => h9) rfl dX1_cracking_1 ?_
  refine lv_iconst (v := 0) hx hb dX1_cracking_4 (by decide) ?_
  refine m_aald hx hb hE hM 1 0 3 cw_1 rfl 0 (by omega) (by decide) rfl rfl dX1_cracking_5 ?_
  refine lv_astore_n (lv' := [(1, .ref (ad 2 0)), (0, .ref (ad 0 0))]) hx hb dX1_cracking_6 rfl hl (by decide) rfl (fun ls hl => ?_)
  refine lv_aload_n hx hb dX1_cracking_7 rfl (lv_at hl 1 rfl) ?_
  refine m_get hx hb hts in_X1 hown hE hM 0 0 cw_0 (ci := 0) rfl 0 (by decide) (hts _ q178) (fun _ h9 => h9) rfl dX1_cracking_8 ?_
  refine lv_astore_n (lv' := [(2, .ref (ad 1 0)), (1, .ref (ad 2 0)), (0, .ref (ad 0 0))]) hx hb dX1_cracking_11 rfl hl (by decide) rfl (fun ls hl => ?_)
  refine lv_aload_n hx hb dX1_cracking_12 rfl (lv_at hl 0 rfl) ?_
  refine m_alen hx hb hE hM 1 0 3 cw_1 rfl (v := 25) rfl dX1_cracking_13 ?_
  refine lv_istore_n (lv' := [(3, .int 25), (2, .ref (ad 1 0)), (1, .ref (ad 2 0)), (0, .ref (ad 0 0))]) hx hb dX1_cracking_14 rfl hl (by decide) rfl (fun ls hl => ?_)
  refine lv_iconst (v := 0) hx hb dX1_cracking_15 (by decide) ?_
  refine lv_istore (lv' := [(4, .int 0), (3, .int 25), (2, .ref (ad 1 0)), (1, .ref (ad 2 0)), (0, .ref (ad 0 0))]) hx hb dX1_cracking_16 hl (by decide) rfl (fun ls hl => ?_)
  have L_5 : ∀ (n9 i_5 : Nat), i_5 + n9 = 25 → ∀ (H : Heap) (locs : List Loc) (ls : Array Slot), mW g.1 A (cwM g ad Mx x) H → va_S A s.heap H locs → lv_has ls 6 [(0, .ref (ad 0 0)), (1, .ref (ad 2 (cclN x i_5))), (2, .ref (ad 1 0)), (3, .int 25), (4, .int (nI i_5))] → W p l e rm_X1_cracking_c s m args below meth c H locs 0 0 Q (F0 m 18 ls []) := by
    intro n9
    induction n9 with
    | zero =>
      intro i_5 hi H locs ls hM hS hl 
      have hi : 25 = i_5 := by omega
      subst hi
      have hcl9 := cclN_lt x 25 (by decide)
      refine lv_iload hx hb dX1_cracking_18 (lv_at hl 4 rfl) ?_
      refine lv_iload_n hx hb dX1_cracking_20 rfl (lv_at hl 3 rfl) ?_
      refine lv_icmp_ge (tgt := 57) hx hb dX1_cracking_21 (by decide) (fun _ => ?_) (fun c9 => absurd (by decide) c9)
      refine lv_aload_n hx hb dX1_cracking_57 rfl (lv_at hl 1 rfl) ?_
      refine lv_iconst (v := 1) hx hb dX1_cracking_58 (by decide) ?_
      refine m_cpi (m_rV (As := [.int 1]) (rest := []) hcf (k_X2_temperature l g A ad Mx x (cclN x 25) (by omega) 1 (by omega)) (cwV 1 hts (lw_V q557 q504 q505 q39 q506) rfl rfl rfl (by decide +kernel) ⟨Nat.le_of_ble_eq_true rfl, Nat.le_of_ble_eq_true rfl⟩) hE hA hM hS 2 (cclN x 25) (cw_2 (cclN_lt x _ (by omega))) (ci := 2) rfl rfl hl.1 rfl (Nat.le_of_ble_eq_true rfl) dX1_cracking_59 ⟨Nat.le_of_ble_eq_true rfl, Nat.le_of_ble_eq_true rfl⟩) hS (fun H locs hM hS => ?_)
      refine lv_bipush (v := (-10)) hx hb dX1_cracking_62 (by decide) ?_
      refine lv_icmp_gt (tgt := 71) hx hb dX1_cracking_64 (by decide) (fun c9 => absurd c9 (Int32.not_lt.mpr hc9)) (fun _ => ?_)
      refine lv_aload_n hx hb dX1_cracking_67 rfl (lv_at hl 1 rfl) ?_
      refine lv_goto (tgt := 72) hx hb dX1_cracking_68 (by decide) ?_
      rw [← hQ]
      exact m_aret () hx hb hr (by first | exact Or.inl ⟨_, rfl⟩ | exact Or.inr ⟨_, rfl⟩) hlk hM hS trivial rfl (by first | decide | omega) (by first | decide | omega) dX1_cracking_72
    | succ n9 ih =>
      intro i_5 hi H locs ls hM hS hl 
      have hlt_i_5 : i_5 < 25 := by omega
      have hcl9 := cclN_lt x i_5 (by omega)
      refine lv_iload hx hb dX1_cracking_18 (lv_at hl 4 rfl) ?_
      refine lv_iload_n hx hb dX1_cracking_20 rfl (lv_at hl 3 rfl) ?_
      refine lv_icmp_ge (tgt := 57) hx hb dX1_cracking_21 (by decide) (fun c9 => absurd c9 (nI_ge (a := i_5) (b := 25) (by omega) (by decide))) (fun _ => ?_)
      refine lv_aload_n hx hb dX1_cracking_24 rfl (lv_at hl 2 rfl) ?_
      refine lv_iload hx hb dX1_cracking_25 (lv_at hl 4 rfl) ?_
      refine m_aald hx hb hE hM 1 0 3 cw_1 rfl i_5 (by omega) (by decide) rfl rfl dX1_cracking_27 ?_
      refine lv_astore (lv' := [(5, .ref (ad 2 i_5)), (0, .ref (ad 0 0)), (1, .ref (ad 2 (cclN x i_5))), (2, .ref (ad 1 0)), (3, .int 25), (4, .int (nI i_5))]) hx hb dX1_cracking_28 hl (by decide) rfl (fun ls hl => ?_)
      refine lv_aload hx hb dX1_cracking_30 (lv_at hl 0 rfl) ?_
      refine lv_iconst (v := 1) hx hb dX1_cracking_32 (by decide) ?_
      refine m_cpi (m_rV (As := [.int 1]) (rest := []) hcf (k_X2_temperature l g A ad Mx x i_5 (by omega) 1 (by omega)) (cwV 1 hts (lw_V q557 q504 q505 q39 q506) rfl rfl rfl (by decide +kernel) ⟨Nat.le_of_ble_eq_true rfl, Nat.le_of_ble_eq_true rfl⟩) hE hA hM hS 2 i_5 (cw_2 (by omega)) (ci := 2) rfl rfl hl.1 rfl (Nat.le_of_ble_eq_true rfl) dX1_cracking_33 ⟨Nat.le_of_ble_eq_true rfl, Nat.le_of_ble_eq_true rfl⟩) hS (fun H locs hM hS => ?_)
      refine lv_aload_n hx hb dX1_cracking_36 rfl (lv_at hl 2 rfl) ?_
      refine lv_iconst (v := 1) hx hb dX1_cracking_37 (by decide) ?_
      refine m_cpi (m_rV (As := [.int 1]) (rest := [.int (cdeg x (5 * i_5 + 1))]) hcf (k_X2_temperature l g A ad Mx x (cclN x i_5) (by omega) 1 (by omega)) (cwV 1 hts (lw_V q557 q504 q505 q39 q506) rfl rfl rfl (by decide +kernel) ⟨Nat.le_of_ble_eq_true rfl, Nat.le_of_ble_eq_true rfl⟩) hE hA hM hS 2 (cclN x i_5) (cw_2 (cclN_lt x _ (by omega))) (ci := 2) rfl rfl hl.1 rfl (Nat.le_of_ble_eq_true rfl) dX1_cracking_38 ⟨Nat.le_of_ble_eq_true rfl, Nat.le_of_ble_eq_true rfl⟩) hS (fun H locs hM hS => ?_)
      have J_15 : ∀ (j_13 : Nat), ((if (cdeg x (5 * (cclN x i_5) + 1)) ≤ (cdeg x (5 * i_5 + 1)) then (cclN x i_5) else i_5) = j_13) → W p l e rm_X1_cracking_c s m args below meth c H locs 0 0 Q (F0 m 50 ls [.ref (ad 2 j_13)]) := by
        intro j_13 ej_14
        refine lv_astore_n (lv' := [(1, .ref (ad 2 j_13)), (5, .ref (ad 2 i_5)), (0, .ref (ad 0 0)), (2, .ref (ad 1 0)), (3, .int 25), (4, .int (nI i_5))]) hx hb dX1_cracking_50 rfl hl (by decide) rfl (fun ls hl => ?_)
        refine lv_iinc (v := nI (i_5 + 1)) (lv' := [(4, .int (nI (i_5 + 1))), (1, .ref (ad 2 j_13)), (5, .ref (ad 2 i_5)), (0, .ref (ad 0 0)), (2, .ref (ad 1 0)), (3, .int 25)]) hx hb dX1_cracking_51 hl (k := 5) rfl (nI_add i_5 1) (by decide) rfl (fun ls hl => ?_)
        refine lv_goto (tgt := 18) hx hb dX1_cracking_54 (by decide) ?_
        exact ih (i_5 + 1) (by omega) H locs ls hM hS (lv_sub hl [3, 1, 4, 5, 0] (by subst ej_14; rfl))
      refine lv_icmp_ge (tgt := 49) hx hb dX1_cracking_41 (by decide) (fun c_12 => ?_) (fun c_12 => ?_)
      · refine lv_aload_n hx hb dX1_cracking_49 rfl (lv_at hl 2 rfl) ?_
        exact J_15 _ (by first | (rw [if_pos c_12]) | rfl | (simp only [c_12, if_true, if_false, ite_true, ite_false, not_false_eq_true, reduceIte]))
      · refine lv_aload hx hb dX1_cracking_44 (lv_at hl 0 rfl) ?_
        refine lv_goto (tgt := 50) hx hb dX1_cracking_46 (by decide) ?_
        exact J_15 _ (by first | (rw [if_neg c_12]) | rfl | (simp only [c_12, if_true, if_false, ite_true, ite_false, not_false_eq_true, reduceIte]))
  exact L_5 (25) 0 (by omega) H locs ls hM hS (lv_sub hl [4, 3, 2, 1, 0] rfl)

abbrev rm_X1_cracking_n : Room := { frames := 2, cells := 0, slots := 0, locals := 42 }
set_option maxHeartbeats 400000 in
theorem k_X1_cracking_n (l : Launch) (g : GG) (A : Nat → Prop) (ad : Nat → Nat → Nat) (Mx : MM) (x : St) (hc9 : (-10) < cdeg x (5 * cclN x 25 + 1)) : Met l yX1_cracking (ws_ yX1_cracking cX1_cracking 6 (some (.object "Wakeground$Cell"))) rm_X1_cracking_n (va_Pc [.ref (ad 0 0)] (mPre g A (cwM g ad Mx x))) (pQn g A (cwM g ad Mx x)) 0 0 A := by
  refine m_start RX1 rfl (by decide) (Nat.le_of_ble_eq_true rfl) ?_
  intro p e s m args below meth c hcf hr hlk hnm hE hA H locs hM hS ls hl
  have hx := hcf.1
  have hb := hcf.2.1
  have hml := hcf.2.2.1
  have hown := hcf.2.2.2.1
  have hts := hcf.2.2.2.2
  have hl : lv_has ls 6 [(0, .ref (ad 0 0))] := hl
  generalize hQ : MQ below (pQn g A (cwM g ad Mx x)) args s 0 0 A = Q
  refine lv_aload_n hx hb dX1_cracking_0 rfl (lv_at hl 0 rfl) ?_
  refine m_get hx hb hts in_X1 hown hE hM 0 0 cw_0 (ci := 0) rfl 0 (by decide) (hts _ q178) (fun _ h9 => h9) rfl dX1_cracking_1 ?_
  refine lv_iconst (v := 0) hx hb dX1_cracking_4 (by decide) ?_
  refine m_aald hx hb hE hM 1 0 3 cw_1 rfl 0 (by omega) (by decide) rfl rfl dX1_cracking_5 ?_
  refine lv_astore_n (lv' := [(1, .ref (ad 2 0)), (0, .ref (ad 0 0))]) hx hb dX1_cracking_6 rfl hl (by decide) rfl (fun ls hl => ?_)
  refine lv_aload_n hx hb dX1_cracking_7 rfl (lv_at hl 1 rfl) ?_
  refine m_get hx hb hts in_X1 hown hE hM 0 0 cw_0 (ci := 0) rfl 0 (by decide) (hts _ q178) (fun _ h9 => h9) rfl dX1_cracking_8 ?_
  refine lv_astore_n (lv' := [(2, .ref (ad 1 0)), (1, .ref (ad 2 0)), (0, .ref (ad 0 0))]) hx hb dX1_cracking_11 rfl hl (by decide) rfl (fun ls hl => ?_)
  refine lv_aload_n hx hb dX1_cracking_12 rfl (lv_at hl 0 rfl) ?_
  refine m_alen hx hb hE hM 1 0 3 cw_1 rfl (v := 25) rfl dX1_cracking_13 ?_
  refine lv_istore_n (lv' := [(3, .int 25), (2, .ref (ad 1 0)), (1, .ref (ad 2 0)), (0, .ref (ad 0 0))]) hx hb dX1_cracking_14 rfl hl (by decide) rfl (fun ls hl => ?_)
  refine lv_iconst (v := 0) hx hb dX1_cracking_15 (by decide) ?_
  refine lv_istore (lv' := [(4, .int 0), (3, .int 25), (2, .ref (ad 1 0)), (1, .ref (ad 2 0)), (0, .ref (ad 0 0))]) hx hb dX1_cracking_16 hl (by decide) rfl (fun ls hl => ?_)
  have L_5 : ∀ (n9 i_5 : Nat), i_5 + n9 = 25 → ∀ (H : Heap) (locs : List Loc) (ls : Array Slot), mW g.1 A (cwM g ad Mx x) H → va_S A s.heap H locs → lv_has ls 6 [(0, .ref (ad 0 0)), (1, .ref (ad 2 (cclN x i_5))), (2, .ref (ad 1 0)), (3, .int 25), (4, .int (nI i_5))] → W p l e rm_X1_cracking_n s m args below meth c H locs 0 0 Q (F0 m 18 ls []) := by
    intro n9
    induction n9 with
    | zero =>
      intro i_5 hi H locs ls hM hS hl 
      have hi : 25 = i_5 := by omega
      subst hi
      have hcl9 := cclN_lt x 25 (by decide)
      refine lv_iload hx hb dX1_cracking_18 (lv_at hl 4 rfl) ?_
      refine lv_iload_n hx hb dX1_cracking_20 rfl (lv_at hl 3 rfl) ?_
      refine lv_icmp_ge (tgt := 57) hx hb dX1_cracking_21 (by decide) (fun _ => ?_) (fun c9 => absurd (by decide) c9)
      refine lv_aload_n hx hb dX1_cracking_57 rfl (lv_at hl 1 rfl) ?_
      refine lv_iconst (v := 1) hx hb dX1_cracking_58 (by decide) ?_
      refine m_cpi (m_rV (As := [.int 1]) (rest := []) hcf (k_X2_temperature l g A ad Mx x (cclN x 25) (by omega) 1 (by omega)) (cwV 1 hts (lw_V q557 q504 q505 q39 q506) rfl rfl rfl (by decide +kernel) ⟨Nat.le_of_ble_eq_true rfl, Nat.le_of_ble_eq_true rfl⟩) hE hA hM hS 2 (cclN x 25) (cw_2 (cclN_lt x _ (by omega))) (ci := 2) rfl rfl hl.1 rfl (Nat.le_of_ble_eq_true rfl) dX1_cracking_59 ⟨Nat.le_of_ble_eq_true rfl, Nat.le_of_ble_eq_true rfl⟩) hS (fun H locs hM hS => ?_)
      refine lv_bipush (v := (-10)) hx hb dX1_cracking_62 (by decide) ?_
      refine lv_icmp_gt (tgt := 71) hx hb dX1_cracking_64 (by decide) (fun _ => ?_) (fun c9 => absurd hc9 c9)
      refine lv_null hx hb dX1_cracking_71 ?_
      rw [← hQ]
      exact m_aretN hx hb hr (by first | exact Or.inl ⟨_, rfl⟩ | exact Or.inr ⟨_, rfl⟩) hlk hM hS (by first | decide | omega) (by first | decide | omega) dX1_cracking_72
    | succ n9 ih =>
      intro i_5 hi H locs ls hM hS hl 
      have hlt_i_5 : i_5 < 25 := by omega
      have hcl9 := cclN_lt x i_5 (by omega)
      refine lv_iload hx hb dX1_cracking_18 (lv_at hl 4 rfl) ?_
      refine lv_iload_n hx hb dX1_cracking_20 rfl (lv_at hl 3 rfl) ?_
      refine lv_icmp_ge (tgt := 57) hx hb dX1_cracking_21 (by decide) (fun c9 => absurd c9 (nI_ge (a := i_5) (b := 25) (by omega) (by decide))) (fun _ => ?_)
      refine lv_aload_n hx hb dX1_cracking_24 rfl (lv_at hl 2 rfl) ?_
      refine lv_iload hx hb dX1_cracking_25 (lv_at hl 4 rfl) ?_
      refine m_aald hx hb hE hM 1 0 3 cw_1 rfl i_5 (by omega) (by decide) rfl rfl dX1_cracking_27 ?_
      refine lv_astore (lv' := [(5, .ref (ad 2 i_5)), (0, .ref (ad 0 0)), (1, .ref (ad 2 (cclN x i_5))), (2, .ref (ad 1 0)), (3, .int 25), (4, .int (nI i_5))]) hx hb dX1_cracking_28 hl (by decide) rfl (fun ls hl => ?_)
      refine lv_aload hx hb dX1_cracking_30 (lv_at hl 0 rfl) ?_
      refine lv_iconst (v := 1) hx hb dX1_cracking_32 (by decide) ?_
      refine m_cpi (m_rV (As := [.int 1]) (rest := []) hcf (k_X2_temperature l g A ad Mx x i_5 (by omega) 1 (by omega)) (cwV 1 hts (lw_V q557 q504 q505 q39 q506) rfl rfl rfl (by decide +kernel) ⟨Nat.le_of_ble_eq_true rfl, Nat.le_of_ble_eq_true rfl⟩) hE hA hM hS 2 i_5 (cw_2 (by omega)) (ci := 2) rfl rfl hl.1 rfl (Nat.le_of_ble_eq_true rfl) dX1_cracking_33 ⟨Nat.le_of_ble_eq_true rfl, Nat.le_of_ble_eq_true rfl⟩) hS (fun H locs hM hS => ?_)
      refine lv_aload_n hx hb dX1_cracking_36 rfl (lv_at hl 2 rfl) ?_
      refine lv_iconst (v := 1) hx hb dX1_cracking_37 (by decide) ?_
      refine m_cpi (m_rV (As := [.int 1]) (rest := [.int (cdeg x (5 * i_5 + 1))]) hcf (k_X2_temperature l g A ad Mx x (cclN x i_5) (by omega) 1 (by omega)) (cwV 1 hts (lw_V q557 q504 q505 q39 q506) rfl rfl rfl (by decide +kernel) ⟨Nat.le_of_ble_eq_true rfl, Nat.le_of_ble_eq_true rfl⟩) hE hA hM hS 2 (cclN x i_5) (cw_2 (cclN_lt x _ (by omega))) (ci := 2) rfl rfl hl.1 rfl (Nat.le_of_ble_eq_true rfl) dX1_cracking_38 ⟨Nat.le_of_ble_eq_true rfl, Nat.le_of_ble_eq_true rfl⟩) hS (fun H locs hM hS => ?_)
      have J_15 : ∀ (j_13 : Nat), ((if (cdeg x (5 * (cclN x i_5) + 1)) ≤ (cdeg x (5 * i_5 + 1)) then (cclN x i_5) else i_5) = j_13) → W p l e rm_X1_cracking_n s m args below meth c H locs 0 0 Q (F0 m 50 ls [.ref (ad 2 j_13)]) := by
        intro j_13 ej_14
        refine lv_astore_n (lv' := [(1, .ref (ad 2 j_13)), (5, .ref (ad 2 i_5)), (0, .ref (ad 0 0)), (2, .ref (ad 1 0)), (3, .int 25), (4, .int (nI i_5))]) hx hb dX1_cracking_50 rfl hl (by decide) rfl (fun ls hl => ?_)
        refine lv_iinc (v := nI (i_5 + 1)) (lv' := [(4, .int (nI (i_5 + 1))), (1, .ref (ad 2 j_13)), (5, .ref (ad 2 i_5)), (0, .ref (ad 0 0)), (2, .ref (ad 1 0)), (3, .int 25)]) hx hb dX1_cracking_51 hl (k := 5) rfl (nI_add i_5 1) (by decide) rfl (fun ls hl => ?_)
        refine lv_goto (tgt := 18) hx hb dX1_cracking_54 (by decide) ?_
        exact ih (i_5 + 1) (by omega) H locs ls hM hS (lv_sub hl [3, 1, 4, 5, 0] (by subst ej_14; rfl))
      refine lv_icmp_ge (tgt := 49) hx hb dX1_cracking_41 (by decide) (fun c_12 => ?_) (fun c_12 => ?_)
      · refine lv_aload_n hx hb dX1_cracking_49 rfl (lv_at hl 2 rfl) ?_
        exact J_15 _ (by first | (rw [if_pos c_12]) | rfl | (simp only [c_12, if_true, if_false, ite_true, ite_false, not_false_eq_true, reduceIte]))
      · refine lv_aload hx hb dX1_cracking_44 (lv_at hl 0 rfl) ?_
        refine lv_goto (tgt := 50) hx hb dX1_cracking_46 (by decide) ?_
        exact J_15 _ (by first | (rw [if_neg c_12]) | rfl | (simp only [c_12, if_true, if_false, ite_true, ite_false, not_false_eq_true, reduceIte]))
  exact L_5 (25) 0 (by omega) H locs ls hM hS (lv_sub hl [4, 3, 2, 1, 0] rfl)

abbrev rm_X1_passOne : Room := { frames := 5, cells := 25, slots := 50, locals := 106 }
set_option maxHeartbeats 4000000 in
theorem k_X1_passOne (l : Launch) (g : GG) (A : Nat → Prop) (ad : Nat → Nat → Nat) (Mx : MM) (x : St) (a0 a1 : Int32) (hok : okM x) (hls : lsOK x) (hho : hoOK x) (hf : okN a1 10) (hm : nt x 1 0 < 600) (hMx : Mx 20 0 = none) : Met l yX1_passOne (ws_ yX1_passOne cX1_passOne 8 none) rm_X1_passOne (va_Pc [.ref (ad 0 0), .int a0, .int a1] (mPre g A (cwM g ad Mx x))) (pQv g A (cwM g ad Mx (cpaF x a0 a1))) 25 50 A := by
  refine m_start RX1 rfl (by decide) (Nat.le_of_ble_eq_true rfl) ?_
  intro p e s m args below meth c hcf hr hlk hnm hE hA H locs hM hS ls hl
  have hx := hcf.1
  have hb := hcf.2.1
  have hml := hcf.2.2.1
  have hown := hcf.2.2.2.1
  have hts := hcf.2.2.2.2
  have hl : lv_has ls 8 [(0, .ref (ad 0 0)), (1, .int a0), (2, .int a1)] := hl
  generalize hQ : MQ below (pQv g A (cwM g ad Mx (cpaF x a0 a1))) args s 25 50 A = Q
  refine lv_aload_n hx hb dX1_passOne_0 rfl (lv_at hl 0 rfl) ?_
  refine m_get hx hb hts in_X1 hown hE hM 0 0 cw_0 (ci := 0) rfl 0 (by decide) (hts _ q178) (fun _ h9 => h9) rfl dX1_passOne_1 ?_
  refine lv_astore_n (lv' := [(3, .ref (ad 1 0)), (0, .ref (ad 0 0)), (1, .int a0), (2, .int a1)]) hx hb dX1_passOne_4 rfl hl (by decide) rfl (fun ls hl => ?_)
  refine lv_aload_n hx hb dX1_passOne_5 rfl (lv_at hl 0 rfl) ?_
  refine m_alen hx hb hE hM 1 0 3 cw_1 rfl (v := 25) rfl dX1_passOne_6 ?_
  refine lv_istore (lv' := [(4, .int 25), (3, .ref (ad 1 0)), (0, .ref (ad 0 0)), (1, .int a0), (2, .int a1)]) hx hb dX1_passOne_7 hl (by decide) rfl (fun ls hl => ?_)
  refine lv_iconst (v := 0) hx hb dX1_passOne_9 (by decide) ?_
  refine lv_istore (lv' := [(5, .int 0), (4, .int 25), (3, .ref (ad 1 0)), (0, .ref (ad 0 0)), (1, .int a0), (2, .int a1)]) hx hb dX1_passOne_10 hl (by decide) rfl (fun ls hl => ?_)
  have L_4 : ∀ (n9 i_4 : Nat), i_4 + n9 = 25 → ∀ (H : Heap) (locs : List Loc) (ls : Array Slot), mW g.1 A (cwM g ad Mx (cp1 x a0 a1 i_4)) H → va_S A s.heap H locs → lv_has ls 8 [(0, .ref (ad 0 0)), (1, .int a0), (2, .int a1), (3, .ref (ad 1 0)), (4, .int 25), (5, .int (nI i_4))] → W p l e rm_X1_passOne s m args below meth c H locs 0 0 Q (F0 m 12 ls []) := by
    intro n9
    induction n9 with
    | zero =>
      intro i_4 hi H locs ls hM hS hl 
      have hi : 25 = i_4 := by omega
      subst hi
      obtain ⟨x_6, ex_7⟩ : ∃ z : St, cp1 x a0 a1 25 = z := ⟨_, rfl⟩
      rw [ex_7] at hM
      refine lv_iload hx hb dX1_passOne_12 (lv_at hl 5 rfl) ?_
      refine lv_iload hx hb dX1_passOne_14 (lv_at hl 4 rfl) ?_
      refine lv_icmp_ge (tgt := 72) hx hb dX1_passOne_16 (by decide) (fun _ => ?_) (fun c9 => absurd (by decide) c9)
      refine lv_aload_n hx hb dX1_passOne_72 rfl (lv_at hl 0 rfl) ?_
      refine m_get hx hb hts in_X1 hown hE hM 0 0 cw_0 (ci := 0) rfl 0 (by decide) (hts _ q178) (fun _ h9 => h9) rfl dX1_passOne_73 ?_
      refine lv_astore_n (lv' := [(3, .ref (ad 1 0)), (0, .ref (ad 0 0)), (1, .int a0), (2, .int a1), (4, .int 25), (5, .int (nI 25))]) hx hb dX1_passOne_76 rfl hl (by decide) rfl (fun ls hl => ?_)
      refine lv_aload_n hx hb dX1_passOne_77 rfl (lv_at hl 0 rfl) ?_
      refine m_alen hx hb hE hM 1 0 3 cw_1 rfl (v := 25) rfl dX1_passOne_78 ?_
      refine lv_istore (lv' := [(4, .int 25), (3, .ref (ad 1 0)), (0, .ref (ad 0 0)), (1, .int a0), (2, .int a1), (5, .int (nI 25))]) hx hb dX1_passOne_79 hl (by decide) rfl (fun ls hl => ?_)
      refine lv_iconst (v := 0) hx hb dX1_passOne_81 (by decide) ?_
      refine lv_istore (lv' := [(5, .int 0), (4, .int 25), (3, .ref (ad 1 0)), (0, .ref (ad 0 0)), (1, .int a0), (2, .int a1)]) hx hb dX1_passOne_82 hl (by decide) rfl (fun ls hl => ?_)
      have L_11 : ∀ (n9 i_11 : Nat), i_11 + n9 = 25 → ∀ (H : Heap) (locs : List Loc) (ls : Array Slot), mW g.1 A (cwM g ad Mx (cp2 x a0 a1 i_11)) H → va_S A s.heap H locs → lv_has ls 8 [(0, .ref (ad 0 0)), (1, .int a0), (2, .int a1), (3, .ref (ad 1 0)), (4, .int 25), (5, .int (nI i_11))] → W p l e rm_X1_passOne s m args below meth c H locs 0 0 Q (F0 m 84 ls []) := by
        intro n9
        induction n9 with
        | zero =>
          intro i_11 hi H locs ls hM hS hl 
          have hi : 25 = i_11 := by omega
          subst hi
          obtain ⟨x_13, ex_14⟩ : ∃ z : St, cp2 x a0 a1 25 = z := ⟨_, rfl⟩
          rw [ex_14] at hM
          refine lv_iload hx hb dX1_passOne_84 (lv_at hl 5 rfl) ?_
          refine lv_iload hx hb dX1_passOne_86 (lv_at hl 4 rfl) ?_
          refine lv_icmp_ge (tgt := 108) hx hb dX1_passOne_88 (by decide) (fun _ => ?_) (fun c9 => absurd (by decide) c9)
          refine lv_aload_n hx hb dX1_passOne_108 rfl (lv_at hl 0 rfl) ?_
          refine m_get hx hb hts in_X1 hown hE hM 0 0 cw_0 (ci := 0) rfl 0 (by decide) (hts _ q178) (fun _ h9 => h9) rfl dX1_passOne_109 ?_
          refine lv_astore_n (lv' := [(3, .ref (ad 1 0)), (0, .ref (ad 0 0)), (1, .int a0), (2, .int a1), (4, .int 25), (5, .int (nI 25))]) hx hb dX1_passOne_112 rfl hl (by decide) rfl (fun ls hl => ?_)
          refine lv_aload_n hx hb dX1_passOne_113 rfl (lv_at hl 0 rfl) ?_
          refine m_alen hx hb hE hM 1 0 3 cw_1 rfl (v := 25) rfl dX1_passOne_114 ?_
          refine lv_istore (lv' := [(4, .int 25), (3, .ref (ad 1 0)), (0, .ref (ad 0 0)), (1, .int a0), (2, .int a1), (5, .int (nI 25))]) hx hb dX1_passOne_115 hl (by decide) rfl (fun ls hl => ?_)
          refine lv_iconst (v := 0) hx hb dX1_passOne_117 (by decide) ?_
          refine lv_istore (lv' := [(5, .int 0), (4, .int 25), (3, .ref (ad 1 0)), (0, .ref (ad 0 0)), (1, .int a0), (2, .int a1)]) hx hb dX1_passOne_118 hl (by decide) rfl (fun ls hl => ?_)
          have L_18 : ∀ (n9 i_18 : Nat), i_18 + n9 = 25 → ∀ (H : Heap) (locs : List Loc) (ls : Array Slot), mW g.1 A (cwM g ad Mx (cp3 x a0 a1 i_18)) H → va_S A s.heap H locs → lv_has ls 8 [(0, .ref (ad 0 0)), (1, .int a0), (2, .int a1), (3, .ref (ad 1 0)), (4, .int 25), (5, .int (nI i_18))] → W p l e rm_X1_passOne s m args below meth c H locs i_18 (2 * i_18) Q (F0 m 120 ls []) := by
            intro n9
            induction n9 with
            | zero =>
              intro i_18 hi H locs ls hM hS hl 
              have hi : 25 = i_18 := by omega
              subst hi
              obtain ⟨x_20, ex_21⟩ : ∃ z : St, cp3 x a0 a1 25 = z := ⟨_, rfl⟩
              rw [ex_21] at hM
              refine lv_iload hx hb dX1_passOne_120 (lv_at hl 5 rfl) ?_
              refine lv_iload hx hb dX1_passOne_122 (lv_at hl 4 rfl) ?_
              refine lv_icmp_ge (tgt := 144) hx hb dX1_passOne_124 (by decide) (fun _ => ?_) (fun c9 => absurd (by decide) c9)
              refine lv_iload_n hx hb dX1_passOne_144 rfl (lv_at hl 1 rfl) ?_
              refine lv_bipush (v := (-20)) hx hb dX1_passOne_145 (by decide) ?_
              have J_34 : ∀ (H : Heap) (locs : List Loc) (ls : Array Slot) (x_31 : St), mW g.1 A (cwM g ad Mx x_31) H → va_S A s.heap H locs → lv_has ls 8 [(0, .ref (ad 0 0)), (1, .int a0), (2, .int a1), (4, .int 25), (5, .int (nI 25))] → ((if (-20) < a0 then x_20 else (if cdeg x_20 (5 * cclN x_20 25 + 1) ≤ (-10) then (ccrF x_20 (cclN x_20 25)) else x_20)) = x_31) → W p l e rm_X1_passOne s m args below meth c H locs 25 50 Q (F0 m 167 ls []) := by
                intro H locs ls x_31 hM hS hl ex_32
                refine lv_aload_n hx hb dX1_passOne_167 rfl (lv_at hl 0 rfl) ?_
                refine m_get hx hb hts in_X1 hown hE hM 0 0 cw_0 (ci := 0) rfl 0 (by decide) (hts _ q178) (fun _ h9 => h9) rfl dX1_passOne_168 ?_
                refine lv_astore (lv' := [(4, .ref (ad 1 0)), (0, .ref (ad 0 0)), (1, .int a0), (2, .int a1), (5, .int (nI 25))]) hx hb dX1_passOne_171 hl (by decide) rfl (fun ls hl => ?_)
                refine lv_aload hx hb dX1_passOne_173 (lv_at hl 0 rfl) ?_
                refine m_alen hx hb hE hM 1 0 3 cw_1 rfl (v := 25) rfl dX1_passOne_175 ?_
                refine lv_istore (lv' := [(5, .int 25), (4, .ref (ad 1 0)), (0, .ref (ad 0 0)), (1, .int a0), (2, .int a1)]) hx hb dX1_passOne_176 hl (by decide) rfl (fun ls hl => ?_)
                refine lv_iconst (v := 0) hx hb dX1_passOne_178 (by decide) ?_
                refine lv_istore (lv' := [(6, .int 0), (5, .int 25), (4, .ref (ad 1 0)), (0, .ref (ad 0 0)), (1, .int a0), (2, .int a1)]) hx hb dX1_passOne_179 hl (by decide) rfl (fun ls hl => ?_)
                have L_38 : ∀ (n9 i_38 : Nat), i_38 + n9 = 25 → ∀ (H : Heap) (locs : List Loc) (ls : Array Slot), mW g.1 A (cwM g ad Mx (cp5 x a0 a1 i_38)) H → va_S A s.heap H locs → lv_has ls 8 [(0, .ref (ad 0 0)), (1, .int a0), (2, .int a1), (4, .ref (ad 1 0)), (5, .int 25), (6, .int (nI i_38))] → W p l e rm_X1_passOne s m args below meth c H locs 25 50 Q (F0 m 181 ls []) := by
                  intro n9
                  induction n9 with
                  | zero =>
                    intro i_38 hi H locs ls hM hS hl 
                    have hi : 25 = i_38 := by omega
                    subst hi
                    obtain ⟨x_40, ex_41⟩ : ∃ z : St, cp5 x a0 a1 25 = z := ⟨_, rfl⟩
                    rw [ex_41] at hM
                    refine lv_iload hx hb dX1_passOne_181 (lv_at hl 5 rfl) ?_
                    refine lv_iload hx hb dX1_passOne_183 (lv_at hl 4 rfl) ?_
                    refine lv_icmp_ge (tgt := 207) hx hb dX1_passOne_185 (by decide) (fun _ => ?_) (fun c9 => absurd (by decide) c9)
                    refine lv_iconst (v := 0) hx hb dX1_passOne_207 (by decide) ?_
                    refine lv_istore (lv' := [(4, .int 0), (0, .ref (ad 0 0)), (1, .int a0), (2, .int a1), (5, .int 25), (6, .int (nI 25))]) hx hb dX1_passOne_208 hl (by decide) rfl (fun ls hl => ?_)
                    have L_43 : ∀ (n9 i_43 : Nat), i_43 + n9 = nt x 13 0 → ∀ (H : Heap) (locs : List Loc) (ls : Array Slot), mW g.1 A (cwM g ad Mx (cp6 x a0 a1 i_43)) H → va_S A s.heap H locs → lv_has ls 8 [(0, .ref (ad 0 0)), (1, .int a0), (2, .int a1), (4, .int (nI i_43))] → W p l e rm_X1_passOne s m args below meth c H locs 25 50 Q (F0 m 210 ls []) := by
                      intro n9
                      induction n9 with
                      | zero =>
                        intro i_43 hi H locs ls hM hS hl 
                        have hi : nt x 13 0 = i_43 := by omega
                        subst hi
                        obtain ⟨x_45, ex_46⟩ : ∃ z : St, cp6 x a0 a1 (nt x 13 0) = z := ⟨_, rfl⟩
                        rw [ex_46] at hM
                        have hcp9 : cp x x_45 := by rw [← ex_46]; exact (cp_cp1 x a0 a1 25).tr (cq_cp6 x a0 a1 _).p
                        have hls9 : lsOK x_45 := hcp9.ls hls
                        have hX1 : nt x_45 1 0 = nt x 1 0 := hcp9.n rfl (by decide) 0
                        have hX13 : nt x_45 13 0 = nt x 13 0 := hcp9.n rfl (by decide) 0
                        have hX19 : nt x_45 19 0 = nt x 19 0 := hcp9.n rfl (by decide) 0
                        have hs0 : cCnt x_45 0 = nI (nt x 13 0) := by rw [← hX13]; exact (hls9 0 (by omega)).1
                        have hs1 : cCnt x_45 1 = nI (nt x 19 0) := by rw [← hX19]; exact (hls9 1 (by omega)).1
                        have hm1 : x_45.1 1 0 = nI (nt x 1 0) := by rw [hcp9 1 rfl (by decide)]; exact hok.h1.1
                        have hb13 : nt x 13 0 < 11 := hok.h13.2
                        have hb19 : nt x 19 0 < 11 := hok.h19.2
                        refine lv_iload hx hb dX1_passOne_210 (lv_at hl 3 rfl) ?_
                        refine lv_aload_n hx hb dX1_passOne_212 rfl (lv_at hl 0 rfl) ?_
                        refine m_get hx hb hts in_X1 hown hE hM 0 0 cw_0 (ci := 0) rfl 1 (by decide) (hts _ q180) (fun _ h9 => h9) rfl dX1_passOne_213 ?_
                        refine m_cpi (m_rV (As := []) (rest := [.int (nI (nt x 13 0))]) hcf (k_J2_size l g A ad Mx x_45 0 (by omega)) (cwV 0 hts (lw_V q575 q576 q577 q38 q578) rfl rfl rfl (by decide +kernel) ⟨Nat.le_of_ble_eq_true rfl, Nat.le_of_ble_eq_true rfl⟩) hE hA hM hS 5 0 (cw_5 (by omega)) (ci := 8) rfl rfl hl.1 rfl (Nat.le_of_ble_eq_true rfl) dX1_passOne_216 ⟨Nat.le_of_ble_eq_true rfl, Nat.le_of_ble_eq_true rfl⟩) hS (fun H locs hM hS => ?_)
                        refine m_topI (y := nI (nt x 13 0)) (hs0) ?_
                        refine lv_icmp_ge (tgt := 243) hx hb dX1_passOne_219 (by decide) (fun _ => ?_) (fun c9 => absurd (nI_le (Nat.le_refl _) (by omega)) c9)
                        refine lv_iconst (v := 0) hx hb dX1_passOne_243 (by decide) ?_
                        refine lv_istore (lv' := [(4, .int 0), (0, .ref (ad 0 0)), (1, .int a0), (2, .int a1)]) hx hb dX1_passOne_244 hl (by decide) rfl (fun ls hl => ?_)
                        have L_49 : ∀ (n9 i_49 : Nat), i_49 + n9 = nt x 19 0 → ∀ (H : Heap) (locs : List Loc) (ls : Array Slot), mW g.1 A (cwM g ad Mx (cp7 x a0 a1 i_49)) H → va_S A s.heap H locs → lv_has ls 8 [(0, .ref (ad 0 0)), (1, .int a0), (2, .int a1), (4, .int (nI i_49))] → W p l e rm_X1_passOne s m args below meth c H locs 25 50 Q (F0 m 246 ls []) := by
                          intro n9
                          induction n9 with
                          | zero =>
                            intro i_49 hi H locs ls hM hS hl 
                            have hi : nt x 19 0 = i_49 := by omega
                            subst hi
                            obtain ⟨x_51, ex_52⟩ : ∃ z : St, cp7 x a0 a1 (nt x 19 0) = z := ⟨_, rfl⟩
                            rw [ex_52] at hM
                            have hcp9 : cp x x_51 := by rw [← ex_52]; exact (cp_cp1 x a0 a1 25).tr (cq_cp7 x a0 a1 _).p
                            have hls9 : lsOK x_51 := hcp9.ls hls
                            have hX1 : nt x_51 1 0 = nt x 1 0 := hcp9.n rfl (by decide) 0
                            have hX13 : nt x_51 13 0 = nt x 13 0 := hcp9.n rfl (by decide) 0
                            have hX19 : nt x_51 19 0 = nt x 19 0 := hcp9.n rfl (by decide) 0
                            have hs0 : cCnt x_51 0 = nI (nt x 13 0) := by rw [← hX13]; exact (hls9 0 (by omega)).1
                            have hs1 : cCnt x_51 1 = nI (nt x 19 0) := by rw [← hX19]; exact (hls9 1 (by omega)).1
                            have hm1 : x_51.1 1 0 = nI (nt x 1 0) := by rw [hcp9 1 rfl (by decide)]; exact hok.h1.1
                            have hb13 : nt x 13 0 < 11 := hok.h13.2
                            have hb19 : nt x 19 0 < 11 := hok.h19.2
                            refine lv_iload hx hb dX1_passOne_246 (lv_at hl 3 rfl) ?_
                            refine lv_aload_n hx hb dX1_passOne_248 rfl (lv_at hl 0 rfl) ?_
                            refine m_get hx hb hts in_X1 hown hE hM 0 0 cw_0 (ci := 0) rfl 2 (by decide) (hts _ q181) (fun _ h9 => h9) rfl dX1_passOne_249 ?_
                            refine m_cpi (m_rV (As := []) (rest := [.int (nI (nt x 19 0))]) hcf (k_J2_size l g A ad Mx x_51 1 (by omega)) (cwV 0 hts (lw_V q575 q576 q577 q38 q578) rfl rfl rfl (by decide +kernel) ⟨Nat.le_of_ble_eq_true rfl, Nat.le_of_ble_eq_true rfl⟩) hE hA hM hS 5 1 (cw_5 (by omega)) (ci := 8) rfl rfl hl.1 rfl (Nat.le_of_ble_eq_true rfl) dX1_passOne_252 ⟨Nat.le_of_ble_eq_true rfl, Nat.le_of_ble_eq_true rfl⟩) hS (fun H locs hM hS => ?_)
                            refine m_topI (y := nI (nt x 19 0)) (hs1) ?_
                            refine lv_icmp_ge (tgt := 283) hx hb dX1_passOne_255 (by decide) (fun _ => ?_) (fun c9 => absurd (nI_le (Nat.le_refl _) (by omega)) c9)
                            refine lv_aload_n hx hb dX1_passOne_283 rfl (lv_at hl 0 rfl) ?_
                            refine lv_dup hx hb dX1_passOne_284 rfl ?_
                            refine m_get hx hb hts in_X1 hown hE hM 0 0 cw_0 (ci := 0) rfl 7 (by decide) (hts _ q187) (fun _ h9 => h9) rfl dX1_passOne_285 ?_
                            refine m_topI (y := nI (nt x 1 0)) (hm1) ?_
                            refine lv_iconst (v := 1) hx hb dX1_passOne_288 (by decide) ?_
                            refine lv_iadd hx hb dX1_passOne_289 ?_
                            refine m_topI (y := nI (nt x 1 0 + 1)) (nI_add (nt x 1 0) 1) ?_
                            refine cm_puti hcf hE hM hS q187 (nI (nt x 1 0 + 1)) dX1_passOne_290 (fun x_54 H locs ex_55 hM hS => ?_)
                            rw [← hQ]
                            exact m_vret () hx hb hr hlk (by have hF : x_54 = cpaF x a0 a1 := (by subst ex_55 ex_52 ex_46 ex_41 ex_32 ex_21 ex_14 ex_7; first | rfl | (unfold cpaF; rfl)); rw [← hF]; exact hM) hS trivial (by first | decide | omega) (by first | decide | omega) dX1_passOne_293
                          | succ n9 ih =>
                            intro i_49 hi H locs ls hM hS hl 
                            have hlt_i_49 : i_49 < nt x 19 0 := by omega
                            obtain ⟨x_57, ex_58⟩ : ∃ z : St, cp7 x a0 a1 i_49 = z := ⟨_, rfl⟩
                            rw [ex_58] at hM
                            have hcp9 : cp x x_57 := by rw [← ex_58]; exact (cp_cp1 x a0 a1 25).tr (cq_cp7 x a0 a1 _).p
                            have hls9 : lsOK x_57 := hcp9.ls hls
                            have hX1 : nt x_57 1 0 = nt x 1 0 := hcp9.n rfl (by decide) 0
                            have hX13 : nt x_57 13 0 = nt x 13 0 := hcp9.n rfl (by decide) 0
                            have hX19 : nt x_57 19 0 = nt x 19 0 := hcp9.n rfl (by decide) 0
                            have hs0 : cCnt x_57 0 = nI (nt x 13 0) := by rw [← hX13]; exact (hls9 0 (by omega)).1
                            have hs1 : cCnt x_57 1 = nI (nt x 19 0) := by rw [← hX19]; exact (hls9 1 (by omega)).1
                            have hm1 : x_57.1 1 0 = nI (nt x 1 0) := by rw [hcp9 1 rfl (by decide)]; exact hok.h1.1
                            have hb13 : nt x 13 0 < 11 := hok.h13.2
                            have hb19 : nt x 19 0 < 11 := hok.h19.2
                            have h20a : nt x_57 20 i_49 < 25 := by rw [hcp9.n (f := 20) rfl (by decide)]; exact (hok.h20 (by omega)).2
                            refine lv_iload hx hb dX1_passOne_246 (lv_at hl 3 rfl) ?_
                            refine lv_aload_n hx hb dX1_passOne_248 rfl (lv_at hl 0 rfl) ?_
                            refine m_get hx hb hts in_X1 hown hE hM 0 0 cw_0 (ci := 0) rfl 2 (by decide) (hts _ q181) (fun _ h9 => h9) rfl dX1_passOne_249 ?_
                            refine m_cpi (m_rV (As := []) (rest := [.int (nI i_49)]) hcf (k_J2_size l g A ad Mx x_57 1 (by omega)) (cwV 0 hts (lw_V q575 q576 q577 q38 q578) rfl rfl rfl (by decide +kernel) ⟨Nat.le_of_ble_eq_true rfl, Nat.le_of_ble_eq_true rfl⟩) hE hA hM hS 5 1 (cw_5 (by omega)) (ci := 8) rfl rfl hl.1 rfl (Nat.le_of_ble_eq_true rfl) dX1_passOne_252 ⟨Nat.le_of_ble_eq_true rfl, Nat.le_of_ble_eq_true rfl⟩) hS (fun H locs hM hS => ?_)
                            refine m_topI (y := nI (nt x 19 0)) (hs1) ?_
                            refine lv_icmp_ge (tgt := 283) hx hb dX1_passOne_255 (by decide) (fun c9 => absurd c9 (nI_ge (by omega) (by omega))) (fun _ => ?_)
                            refine lv_aload_n hx hb dX1_passOne_258 rfl (lv_at hl 0 rfl) ?_
                            refine m_get hx hb hts in_X1 hown hE hM 0 0 cw_0 (ci := 0) rfl 2 (by decide) (hts _ q181) (fun _ h9 => h9) rfl dX1_passOne_259 ?_
                            refine lv_iload hx hb dX1_passOne_262 (lv_at hl 3 rfl) ?_
                            refine m_cpr (m_rV (As := [.int (nI i_49)]) (rest := []) hcf (k_J2_get l g A ad Mx x_57 hls9 1 (by omega) i_49 (by show _ < nt x_57 19 0; omega)) (cwV 1 hts (lw_V q579 q580 q581 q38 q582) rfl rfl rfl (by decide +kernel) ⟨Nat.le_of_ble_eq_true rfl, Nat.le_of_ble_eq_true rfl⟩) hE hA hM hS 5 1 (cw_5 (by omega)) (ci := 8) rfl rfl hl.1 rfl (Nat.le_of_ble_eq_true rfl) dX1_passOne_264 ⟨Nat.le_of_ble_eq_true rfl, Nat.le_of_ble_eq_true rfl⟩) hS (fun H locs hM hS => ?_)
                            refine va_castS hx hb hown (hts _ q624) (hE.1.1 6 _ rfl).2 (m_recv hE hM ((cw_8 (by omega)) : cwM g ad Mx x_57 8 i_49 = _) rfl) dX1_passOne_267 ?_
                            refine lv_aload_n hx hb dX1_passOne_270 rfl (lv_at hl 0 rfl) ?_
                            refine m_get hx hb hts in_X1 hown hE hM 0 0 cw_0 (ci := 0) rfl 7 (by decide) (hts _ q187) (fun _ h9 => h9) rfl dX1_passOne_271 ?_
                            refine m_topI (y := nI (nt x 1 0)) (hm1) ?_
                            refine m_cpv (m_rV (As := [.int (nI (nt x 1 0))]) (rest := []) hcf (k_X7_read l g A ad Mx x_57 i_49 (by omega) h20a (nt x 1 0) (by omega)) (cwV 1 hts (lw_V q625 q626 q627 q62 q628) rfl rfl rfl (by decide +kernel) ⟨Nat.le_of_ble_eq_true rfl, Nat.le_of_ble_eq_true rfl⟩) hE hA hM hS 8 i_49 (cw_8 (by omega)) (ci := 6) rfl rfl hl.1 rfl (Nat.le_of_ble_eq_true rfl) dX1_passOne_274 ⟨Nat.le_of_ble_eq_true rfl, Nat.le_of_ble_eq_true rfl⟩) hS (fun H locs hM hS => ?_)
                            obtain ⟨x_61, ex_62⟩ : ∃ z : St, crdF x_57 i_49 (nt x 1 0) = z := ⟨_, rfl⟩
                            rw [ex_62] at hM
                            refine lv_iinc (v := nI (i_49 + 1)) (lv' := [(4, .int (nI (i_49 + 1))), (0, .ref (ad 0 0)), (1, .int a0), (2, .int a1)]) hx hb dX1_passOne_277 hl (k := 3) rfl (nI_add i_49 1) (by decide) rfl (fun ls hl => ?_)
                            refine lv_goto (tgt := 246) hx hb dX1_passOne_280 (by decide) ?_
                            exact ih (i_49 + 1) (by omega) H locs ls (by have hF : x_61 = cp7 x a0 a1 (i_49 + 1) := (by subst ex_62 ex_58; exact (cp7_s _ _ _ _).symm); rw [← hF]; exact hM) hS (lv_sub hl [1, 2, 3, 0] (by subst ex_62 ex_58; rfl))
                        rw [← ex_46, cp7_0] at hM
                        exact L_49 (nt x 19 0) 0 (by omega) H locs ls hM hS (lv_sub hl [1, 2, 3, 0] rfl)
                      | succ n9 ih =>
                        intro i_43 hi H locs ls hM hS hl 
                        have hlt_i_43 : i_43 < nt x 13 0 := by omega
                        obtain ⟨x_66, ex_67⟩ : ∃ z : St, cp6 x a0 a1 i_43 = z := ⟨_, rfl⟩
                        rw [ex_67] at hM
                        have hcp9 : cp x x_66 := by rw [← ex_67]; exact (cp_cp1 x a0 a1 25).tr (cq_cp6 x a0 a1 _).p
                        have hls9 : lsOK x_66 := hcp9.ls hls
                        have hX1 : nt x_66 1 0 = nt x 1 0 := hcp9.n rfl (by decide) 0
                        have hX13 : nt x_66 13 0 = nt x 13 0 := hcp9.n rfl (by decide) 0
                        have hX19 : nt x_66 19 0 = nt x 19 0 := hcp9.n rfl (by decide) 0
                        have hs0 : cCnt x_66 0 = nI (nt x 13 0) := by rw [← hX13]; exact (hls9 0 (by omega)).1
                        have hs1 : cCnt x_66 1 = nI (nt x 19 0) := by rw [← hX19]; exact (hls9 1 (by omega)).1
                        have hm1 : x_66.1 1 0 = nI (nt x 1 0) := by rw [hcp9 1 rfl (by decide)]; exact hok.h1.1
                        have hb13 : nt x 13 0 < 11 := hok.h13.2
                        have hb19 : nt x 19 0 < 11 := hok.h19.2
                        have ho15 : okN (x_66.1 15 i_43) 5 := by rw [hcp9 15 rfl (by decide)]; exact hok.h15 (by omega)
                        have h15a : x_66.1 15 i_43 = nI (nt x_66 15 i_43) := ho15.1
                        have h15b : nt x_66 15 i_43 < 5 := ho15.2
                        have h14a : nt x_66 14 i_43 < 25 := by rw [hcp9.n (f := 14) rfl (by decide)]; exact (hok.h14 (by omega)).2
                        refine lv_iload hx hb dX1_passOne_210 (lv_at hl 3 rfl) ?_
                        refine lv_aload_n hx hb dX1_passOne_212 rfl (lv_at hl 0 rfl) ?_
                        refine m_get hx hb hts in_X1 hown hE hM 0 0 cw_0 (ci := 0) rfl 1 (by decide) (hts _ q180) (fun _ h9 => h9) rfl dX1_passOne_213 ?_
                        refine m_cpi (m_rV (As := []) (rest := [.int (nI i_43)]) hcf (k_J2_size l g A ad Mx x_66 0 (by omega)) (cwV 0 hts (lw_V q575 q576 q577 q38 q578) rfl rfl rfl (by decide +kernel) ⟨Nat.le_of_ble_eq_true rfl, Nat.le_of_ble_eq_true rfl⟩) hE hA hM hS 5 0 (cw_5 (by omega)) (ci := 8) rfl rfl hl.1 rfl (Nat.le_of_ble_eq_true rfl) dX1_passOne_216 ⟨Nat.le_of_ble_eq_true rfl, Nat.le_of_ble_eq_true rfl⟩) hS (fun H locs hM hS => ?_)
                        refine m_topI (y := nI (nt x 13 0)) (hs0) ?_
                        refine lv_icmp_ge (tgt := 243) hx hb dX1_passOne_219 (by decide) (fun c9 => absurd c9 (nI_ge (by omega) (by omega))) (fun _ => ?_)
                        refine lv_aload_n hx hb dX1_passOne_222 rfl (lv_at hl 0 rfl) ?_
                        refine m_get hx hb hts in_X1 hown hE hM 0 0 cw_0 (ci := 0) rfl 1 (by decide) (hts _ q180) (fun _ h9 => h9) rfl dX1_passOne_223 ?_
                        refine lv_iload hx hb dX1_passOne_226 (lv_at hl 3 rfl) ?_
                        refine m_cpr (m_rV (As := [.int (nI i_43)]) (rest := []) hcf (k_J2_get l g A ad Mx x_66 hls9 0 (by omega) i_43 (by show _ < nt x_66 13 0; omega)) (cwV 1 hts (lw_V q579 q580 q581 q38 q582) rfl rfl rfl (by decide +kernel) ⟨Nat.le_of_ble_eq_true rfl, Nat.le_of_ble_eq_true rfl⟩) hE hA hM hS 5 0 (cw_5 (by omega)) (ci := 8) rfl rfl hl.1 rfl (Nat.le_of_ble_eq_true rfl) dX1_passOne_228 ⟨Nat.le_of_ble_eq_true rfl, Nat.le_of_ble_eq_true rfl⟩) hS (fun H locs hM hS => ?_)
                        refine va_castS hx hb hown (hts _ q593) (hE.1.1 5 _ rfl).2 (m_recv hE hM ((cw_7 (by omega)) : cwM g ad Mx x_66 7 i_43 = _) rfl) dX1_passOne_231 ?_
                        refine m_cpv (m_rV (As := []) (rest := []) hcf (k_X6_stand l g A ad Mx x_66 i_43 (by omega) h14a h15a h15b) (cwV 0 hts (lw_V q594 q595 q596 q58 q597) rfl rfl rfl (by decide +kernel) ⟨Nat.le_of_ble_eq_true rfl, Nat.le_of_ble_eq_true rfl⟩) hE hA hM hS 7 i_43 (cw_7 (by omega)) (ci := 5) rfl rfl hl.1 rfl (Nat.le_of_ble_eq_true rfl) dX1_passOne_234 ⟨Nat.le_of_ble_eq_true rfl, Nat.le_of_ble_eq_true rfl⟩) hS (fun H locs hM hS => ?_)
                        obtain ⟨x_70, ex_71⟩ : ∃ z : St, cstF x_66 i_43 = z := ⟨_, rfl⟩
                        rw [ex_71] at hM
                        refine lv_iinc (v := nI (i_43 + 1)) (lv' := [(4, .int (nI (i_43 + 1))), (0, .ref (ad 0 0)), (1, .int a0), (2, .int a1)]) hx hb dX1_passOne_237 hl (k := 3) rfl (nI_add i_43 1) (by decide) rfl (fun ls hl => ?_)
                        refine lv_goto (tgt := 210) hx hb dX1_passOne_240 (by decide) ?_
                        exact ih (i_43 + 1) (by omega) H locs ls (by have hF : x_70 = cp6 x a0 a1 (i_43 + 1) := (by subst ex_71 ex_67; exact (cp6_s _ _ _ _).symm); rw [← hF]; exact hM) hS (lv_sub hl [1, 2, 3, 0] (by subst ex_71 ex_67; rfl))
                    rw [← ex_41, cp6_0] at hM
                    exact L_43 (nt x 13 0) 0 (by omega) H locs ls hM hS (lv_sub hl [1, 2, 3, 0] rfl)
                  | succ n9 ih =>
                    intro i_38 hi H locs ls hM hS hl 
                    have hlt_i_38 : i_38 < 25 := by omega
                    obtain ⟨x_75, ex_76⟩ : ∃ z : St, cp5 x a0 a1 i_38 = z := ⟨_, rfl⟩
                    rw [ex_76] at hM
                    refine lv_iload hx hb dX1_passOne_181 (lv_at hl 5 rfl) ?_
                    refine lv_iload hx hb dX1_passOne_183 (lv_at hl 4 rfl) ?_
                    refine lv_icmp_ge (tgt := 207) hx hb dX1_passOne_185 (by decide) (fun c9 => absurd c9 (nI_ge (a := i_38) (b := 25) (by omega) (by decide))) (fun _ => ?_)
                    refine lv_aload hx hb dX1_passOne_188 (lv_at hl 3 rfl) ?_
                    refine lv_iload hx hb dX1_passOne_190 (lv_at hl 5 rfl) ?_
                    refine m_aald hx hb hE hM 1 0 3 cw_1 rfl i_38 (by omega) (by decide) rfl rfl dX1_passOne_192 ?_
                    refine lv_astore (lv' := [(7, .ref (ad 2 i_38)), (0, .ref (ad 0 0)), (1, .int a0), (2, .int a1), (4, .ref (ad 1 0)), (5, .int 25), (6, .int (nI i_38))]) hx hb dX1_passOne_193 hl (by decide) rfl (fun ls hl => ?_)
                    refine lv_aload hx hb dX1_passOne_195 (lv_at hl 0 rfl) ?_
                    refine lv_iload_n hx hb dX1_passOne_197 rfl (lv_at hl 2 rfl) ?_
                    refine m_cpv (m_rV (As := [.int a0]) (rest := []) hcf (k_X2_live l g A ad Mx x_75 i_38 (by omega) a0) (cwV 1 hts (lw_V q562 q563 q564 q39 q565) rfl rfl rfl (by decide +kernel) ⟨Nat.le_of_ble_eq_true rfl, Nat.le_of_ble_eq_true rfl⟩) hE hA hM hS 2 i_38 (cw_2 (by omega)) (ci := 2) rfl rfl hl.1 rfl (Nat.le_of_ble_eq_true rfl) dX1_passOne_198 ⟨Nat.le_of_ble_eq_true rfl, Nat.le_of_ble_eq_true rfl⟩) hS (fun H locs hM hS => ?_)
                    obtain ⟨x_78, ex_79⟩ : ∃ z : St, cliF x_75 i_38 a0 = z := ⟨_, rfl⟩
                    rw [ex_79] at hM
                    refine lv_iinc (v := nI (i_38 + 1)) (lv' := [(6, .int (nI (i_38 + 1))), (7, .ref (ad 2 i_38)), (0, .ref (ad 0 0)), (1, .int a0), (2, .int a1), (4, .ref (ad 1 0)), (5, .int 25)]) hx hb dX1_passOne_201 hl (k := 6) rfl (nI_add i_38 1) (by decide) rfl (fun ls hl => ?_)
                    refine lv_goto (tgt := 181) hx hb dX1_passOne_204 (by decide) ?_
                    exact ih (i_38 + 1) (by omega) H locs ls (by have hF : x_78 = cp5 x a0 a1 (i_38 + 1) := (by subst ex_79 ex_76; exact (cp5_s _ _ _ _).symm); rw [← hF]; exact hM) hS (lv_sub hl [2, 3, 4, 5, 6, 0] (by subst ex_79 ex_76; rfl))
                have h5 : x_31 = cp4 x a0 a1 := by subst ex_32 ex_21; rfl
                rw [h5, cp5_0] at hM
                exact L_38 (25) 0 (by omega) H locs ls hM hS (lv_sub hl [3, 4, 5, 2, 1, 0] rfl)
              refine lv_icmp_gt (tgt := 157) hx hb dX1_passOne_147 (by decide) (fun c_22 => ?_) (fun c_22 => ?_)
              · refine lv_null hx hb dX1_passOne_157 ?_
                refine lv_astore_nN (lv' := [(3, .null), (0, .ref (ad 0 0)), (1, .int a0), (2, .int a1), (4, .int 25), (5, .int (nI 25))]) hx hb dX1_passOne_158 rfl hl (by decide) rfl (fun ls hl => ?_)
                refine lv_aload_nN hx hb dX1_passOne_159 rfl (lv_at hl 0 rfl) ?_
                refine lv_ifnullN (tgt := 167) hx hb dX1_passOne_160 (by decide) ?_
                exact J_34 H locs ls _ hM hS (lv_sub hl [1, 2, 3, 4, 5] rfl) (by first | (rw [if_pos c_22]) | rfl | (simp only [c_22, if_true, if_false, ite_true, ite_false, not_false_eq_true, reduceIte]))
              · refine lv_aload_n hx hb dX1_passOne_150 rfl (lv_at hl 0 rfl) ?_
                by_cases hc9 : cdeg x_20 (5 * cclN x_20 25 + 1) ≤ (-10)
                · refine m_cpr (m_rV (As := []) (rest := []) hcf (k_X1_cracking_c l g A ad Mx x_20 hc9) (cwV 0 hts (lw_V q553 q555 qs9 q35 q556) rfl rfl rfl (by decide +kernel) ⟨Nat.le_of_ble_eq_true rfl, Nat.le_of_ble_eq_true rfl⟩) hE hA hM hS 0 0 cw_0 (ci := 0) rfl rfl hl.1 rfl (Nat.le_of_ble_eq_true rfl) dX1_passOne_151 ⟨Nat.le_of_ble_eq_true rfl, Nat.le_of_ble_eq_true rfl⟩) hS (fun H locs hM hS => ?_)
                  refine lv_goto (tgt := 158) hx hb dX1_passOne_154 (by decide) ?_
                  refine lv_astore_n (lv' := [(3, .ref (ad 2 (cclN x_20 25))), (0, .ref (ad 0 0)), (1, .int a0), (2, .int a1), (4, .int 25), (5, .int (nI 25))]) hx hb dX1_passOne_158 rfl hl (by decide) rfl (fun ls hl => ?_)
                  refine lv_aload_n hx hb dX1_passOne_159 rfl (lv_at hl 0 rfl) ?_
                  refine lv_ifnull hx hb dX1_passOne_160 ?_
                  refine lv_aload_n hx hb dX1_passOne_163 rfl (lv_at hl 0 rfl) ?_
                  refine m_cpv (m_rV (As := []) (rest := []) hcf (k_X2_crack l g A ad Mx x_20 (cclN x_20 25) (cclN_lt _ _ (by decide))) (cwV 0 hts (lw_V q558 q559 q560 q39 q561) rfl rfl rfl (by decide +kernel) ⟨Nat.le_of_ble_eq_true rfl, Nat.le_of_ble_eq_true rfl⟩) hE hA hM hS 2 (cclN x_20 25) (cw_2 (cclN_lt _ _ (by decide))) (ci := 2) rfl rfl hl.1 rfl (Nat.le_of_ble_eq_true rfl) dX1_passOne_164 ⟨Nat.le_of_ble_eq_true rfl, Nat.le_of_ble_eq_true rfl⟩) hS (fun H locs hM hS => ?_)
                  obtain ⟨x_26, ex_27⟩ : ∃ z : St, ccrF x_20 (cclN x_20 25) = z := ⟨_, rfl⟩
                  rw [ex_27] at hM
                  exact J_34 H locs ls _ hM hS (lv_sub hl [1, 2, 3, 4, 5] rfl) (by subst ex_27; first | (rw [if_neg c_22, if_pos hc9]) | rfl | (simp only [c_22, hc9, if_true, if_false, ite_true, ite_false, not_false_eq_true, reduceIte]))
                · refine m_cpn (m_rV (As := []) (rest := []) hcf (k_X1_cracking_n l g A ad Mx x_20 (Int32.not_le.mp hc9)) (cwV 0 hts (lw_V q553 q555 qs9 q35 q556) rfl rfl rfl (by decide +kernel) ⟨Nat.le_of_ble_eq_true rfl, Nat.le_of_ble_eq_true rfl⟩) hE hA hM hS 0 0 cw_0 (ci := 0) rfl rfl hl.1 rfl (Nat.le_of_ble_eq_true rfl) dX1_passOne_151 ⟨Nat.le_of_ble_eq_true rfl, Nat.le_of_ble_eq_true rfl⟩) hS (fun H locs hM hS => ?_)
                  refine lv_goto (tgt := 158) hx hb dX1_passOne_154 (by decide) ?_
                  refine lv_astore_nN (lv' := [(3, .null), (0, .ref (ad 0 0)), (1, .int a0), (2, .int a1), (4, .int 25), (5, .int (nI 25))]) hx hb dX1_passOne_158 rfl hl (by decide) rfl (fun ls hl => ?_)
                  refine lv_aload_nN hx hb dX1_passOne_159 rfl (lv_at hl 0 rfl) ?_
                  refine lv_ifnullN (tgt := 167) hx hb dX1_passOne_160 (by decide) ?_
                  exact J_34 H locs ls _ hM hS (lv_sub hl [1, 2, 3, 4, 5] rfl) (by first | (rw [if_neg c_22, if_neg hc9]) | rfl | (simp only [c_22, hc9, if_true, if_false, ite_true, ite_false, not_false_eq_true, reduceIte]))
            | succ n9 ih =>
              intro i_18 hi H locs ls hM hS hl 
              have hlt_i_18 : i_18 < 25 := by omega
              obtain ⟨x_83, ex_84⟩ : ∃ z : St, cp3 x a0 a1 i_18 = z := ⟨_, rfl⟩
              rw [ex_84] at hM
              refine lv_iload hx hb dX1_passOne_120 (lv_at hl 5 rfl) ?_
              refine lv_iload hx hb dX1_passOne_122 (lv_at hl 4 rfl) ?_
              refine lv_icmp_ge (tgt := 144) hx hb dX1_passOne_124 (by decide) (fun c9 => absurd c9 (nI_ge (a := i_18) (b := 25) (by omega) (by decide))) (fun _ => ?_)
              refine lv_aload_n hx hb dX1_passOne_127 rfl (lv_at hl 3 rfl) ?_
              refine lv_iload hx hb dX1_passOne_128 (lv_at hl 5 rfl) ?_
              refine m_aald hx hb hE hM 1 0 3 cw_1 rfl i_18 (by omega) (by decide) rfl rfl dX1_passOne_130 ?_
              refine lv_astore (lv' := [(6, .ref (ad 2 i_18)), (0, .ref (ad 0 0)), (1, .int a0), (2, .int a1), (3, .ref (ad 1 0)), (4, .int 25), (5, .int (nI i_18))]) hx hb dX1_passOne_131 hl (by decide) rfl (fun ls hl => ?_)
              refine lv_aload hx hb dX1_passOne_133 (lv_at hl 0 rfl) ?_
              refine m_cpv (m_rV (As := []) (rest := []) hcf (k_X2_flow l g A ad Mx x_83 i_18 (by omega) hMx) (cwV 0 hts (lw_V q536 q537 q538 q39 q539) rfl rfl rfl (by decide +kernel) ⟨Nat.le_of_ble_eq_true rfl, Nat.le_of_ble_eq_true rfl⟩) hE hA hM hS 2 i_18 (cw_2 (by omega)) (ci := 2) rfl rfl hl.1 rfl (Nat.le_of_ble_eq_true rfl) dX1_passOne_135 ⟨(by show i_18 + 1 ≤ 25; omega), (by show (2 * i_18) + 2 ≤ 50; omega)⟩) hS (fun H locs hM hS => ?_)
              obtain ⟨x_86, ex_87⟩ : ∃ z : St, cfwF x_83 i_18 = z := ⟨_, rfl⟩
              rw [ex_87] at hM
              refine lv_iinc (v := nI (i_18 + 1)) (lv' := [(5, .int (nI (i_18 + 1))), (6, .ref (ad 2 i_18)), (0, .ref (ad 0 0)), (1, .int a0), (2, .int a1), (3, .ref (ad 1 0)), (4, .int 25)]) hx hb dX1_passOne_138 hl (k := 6) rfl (nI_add i_18 1) (by decide) rfl (fun ls hl => ?_)
              refine lv_goto (tgt := 120) hx hb dX1_passOne_141 (by decide) ?_
              refine W.widen (k := (i_18 + 1)) (n := 2 * (i_18 + 1)) (by first | omega | decide) (by first | omega | decide) ?_
              exact ih (i_18 + 1) (by omega) H locs ls (by have hF : x_86 = cp3 x a0 a1 (i_18 + 1) := (by subst ex_87 ex_84; exact (cp3_s _ _ _ _).symm); rw [← hF]; exact hM) hS (lv_sub hl [2, 3, 4, 5, 6, 0] (by subst ex_87 ex_84; rfl))
          refine W.widen (k := 0) (n := 0) (by first | omega | decide) (by first | omega | decide) ?_
          rw [← ex_14, cp3_0] at hM
          exact L_18 (25) 0 (by omega) H locs ls hM hS (lv_sub hl [3, 4, 5, 2, 1, 0] rfl)
        | succ n9 ih =>
          intro i_11 hi H locs ls hM hS hl 
          have hlt_i_11 : i_11 < 25 := by omega
          obtain ⟨x_91, ex_92⟩ : ∃ z : St, cp2 x a0 a1 i_11 = z := ⟨_, rfl⟩
          rw [ex_92] at hM
          refine lv_iload hx hb dX1_passOne_84 (lv_at hl 5 rfl) ?_
          refine lv_iload hx hb dX1_passOne_86 (lv_at hl 4 rfl) ?_
          refine lv_icmp_ge (tgt := 108) hx hb dX1_passOne_88 (by decide) (fun c9 => absurd c9 (nI_ge (a := i_11) (b := 25) (by omega) (by decide))) (fun _ => ?_)
          refine lv_aload_n hx hb dX1_passOne_91 rfl (lv_at hl 3 rfl) ?_
          refine lv_iload hx hb dX1_passOne_92 (lv_at hl 5 rfl) ?_
          refine m_aald hx hb hE hM 1 0 3 cw_1 rfl i_11 (by omega) (by decide) rfl rfl dX1_passOne_94 ?_
          refine lv_astore (lv' := [(6, .ref (ad 2 i_11)), (0, .ref (ad 0 0)), (1, .int a0), (2, .int a1), (3, .ref (ad 1 0)), (4, .int 25), (5, .int (nI i_11))]) hx hb dX1_passOne_95 hl (by decide) rfl (fun ls hl => ?_)
          refine lv_aload hx hb dX1_passOne_97 (lv_at hl 0 rfl) ?_
          refine m_cpv (m_rV (As := []) (rest := []) hcf (k_X2_melt l g A ad Mx x_91 i_11 (by omega)) (cwV 0 hts (lw_V q519 q520 q521 q39 q522) rfl rfl rfl (by decide +kernel) ⟨Nat.le_of_ble_eq_true rfl, Nat.le_of_ble_eq_true rfl⟩) hE hA hM hS 2 i_11 (cw_2 (by omega)) (ci := 2) rfl rfl hl.1 rfl (Nat.le_of_ble_eq_true rfl) dX1_passOne_99 ⟨Nat.le_of_ble_eq_true rfl, Nat.le_of_ble_eq_true rfl⟩) hS (fun H locs hM hS => ?_)
          obtain ⟨x_94, ex_95⟩ : ∃ z : St, cmlF x_91 i_11 = z := ⟨_, rfl⟩
          rw [ex_95] at hM
          refine lv_iinc (v := nI (i_11 + 1)) (lv' := [(5, .int (nI (i_11 + 1))), (6, .ref (ad 2 i_11)), (0, .ref (ad 0 0)), (1, .int a0), (2, .int a1), (3, .ref (ad 1 0)), (4, .int 25)]) hx hb dX1_passOne_102 hl (k := 6) rfl (nI_add i_11 1) (by decide) rfl (fun ls hl => ?_)
          refine lv_goto (tgt := 84) hx hb dX1_passOne_105 (by decide) ?_
          exact ih (i_11 + 1) (by omega) H locs ls (by have hF : x_94 = cp2 x a0 a1 (i_11 + 1) := (by subst ex_95 ex_92; exact (cp2_s _ _ _ _).symm); rw [← hF]; exact hM) hS (lv_sub hl [2, 3, 4, 5, 6, 0] (by subst ex_95 ex_92; rfl))
      rw [← ex_7, cp2_0] at hM
      exact L_11 (25) 0 (by omega) H locs ls hM hS (lv_sub hl [3, 4, 5, 2, 1, 0] rfl)
    | succ n9 ih =>
      intro i_4 hi H locs ls hM hS hl 
      have hlt_i_4 : i_4 < 25 := by omega
      obtain ⟨x_99, ex_100⟩ : ∃ z : St, cp1 x a0 a1 i_4 = z := ⟨_, rfl⟩
      rw [ex_100] at hM
      refine lv_iload hx hb dX1_passOne_12 (lv_at hl 5 rfl) ?_
      refine lv_iload hx hb dX1_passOne_14 (lv_at hl 4 rfl) ?_
      refine lv_icmp_ge (tgt := 72) hx hb dX1_passOne_16 (by decide) (fun c9 => absurd c9 (nI_ge (a := i_4) (b := 25) (by omega) (by decide))) (fun _ => ?_)
      refine lv_aload_n hx hb dX1_passOne_19 rfl (lv_at hl 3 rfl) ?_
      refine lv_iload hx hb dX1_passOne_20 (lv_at hl 5 rfl) ?_
      refine m_aald hx hb hE hM 1 0 3 cw_1 rfl i_4 (by omega) (by decide) rfl rfl dX1_passOne_22 ?_
      refine lv_astore (lv' := [(6, .ref (ad 2 i_4)), (0, .ref (ad 0 0)), (1, .int a0), (2, .int a1), (3, .ref (ad 1 0)), (4, .int 25), (5, .int (nI i_4))]) hx hb dX1_passOne_23 hl (by decide) rfl (fun ls hl => ?_)
      refine lv_aload hx hb dX1_passOne_25 (lv_at hl 0 rfl) ?_
      refine lv_iload_n hx hb dX1_passOne_27 rfl (lv_at hl 2 rfl) ?_
      have J_108 : ∀ (H : Heap) (locs : List Loc) (v_106 : Int32), mW g.1 A (cwM g ad Mx x_99) H → va_S A s.heap H locs → ((if 0 ≤ a0 then 0 else (jmin 9 ((x_99.1 4 i_4) + a1))) = v_106) → W p l e rm_X1_passOne s m args below meth c H locs 0 0 Q (F0 m 47 ls [.int v_106, .ref (ad 2 i_4)]) := by
        intro H locs v_106 hM hS ev_107
        refine cc_put hcf hE hM hS i_4 (by omega) 4 (by decide) (by decide) q146 rfl rfl rfl v_106 rfl dX1_passOne_47 (fun x_109 H locs ex_110 hM hS => ?_)
        have hsn9 : x_109 = csnF a0 a1 (cp1 x a0 a1 i_4) i_4 := by subst ex_110 ev_107 ex_100; rfl
        have ho9 : okM x_109 := by rw [hsn9]; exact ok_csn hf (ok_cp1 hok hf i_4 (by omega)) (by omega)
        have hho9 : hoOK x_109 := by rw [hsn9]; exact ((cp_cp1 x a0 a1 i_4).tr (cp_csn _ _ _ _)).ho hho
        refine lv_aload_n hx hb dX1_passOne_50 rfl (lv_at hl 1 rfl) ?_
        refine m_get hx hb hts in_X1 hown hE hM 0 0 cw_0 (ci := 0) rfl 5 (by decide) (hts _ q185) (fun _ h9 => h9) rfl dX1_passOne_51 ?_
        refine lv_iconst (v := 0) hx hb dX1_passOne_54 (by decide) ?_
        refine lv_dup2_11 hx hb dX1_passOne_55 rfl rfl ?_
        refine ca_ld hcf hE hM 0 (by omega) rfl dX1_passOne_56 ?_
        refine lv_aload hx hb dX1_passOne_57 (lv_at hl 0 rfl) ?_
        refine lv_iload_n hx hb dX1_passOne_59 rfl (lv_at hl 2 rfl) ?_
        refine m_cpi (m_rV (As := [.int a0]) (rest := [.long (x_109.2 26), .int 0, .ref (ad 11 1)]) hcf (k_X2_lead l g A ad Mx x_109 i_4 (by omega) a0 ho9 hho9) (cwV 1 hts (lw_V q499 q500 q501 q39 q502) rfl rfl rfl (by decide +kernel) ⟨Nat.le_of_ble_eq_true rfl, Nat.le_of_ble_eq_true rfl⟩) hE hA hM hS 2 i_4 (cw_2 (by omega)) (ci := 2) rfl rfl hl.1 rfl (Nat.le_of_ble_eq_true rfl) dX1_passOne_60 ⟨Nat.le_of_ble_eq_true rfl, Nat.le_of_ble_eq_true rfl⟩) hS (fun H locs hM hS => ?_)
        obtain ⟨x_111, ex_112⟩ : ∃ z : St, ledF x_109 i_4 a0 = z := ⟨_, rfl⟩
        rw [ex_112] at hM
        refine lv_i2l hx hb dX1_passOne_63 rfl ?_
        refine lv_ladd hx hb dX1_passOne_64 ?_
        refine ca_st hcf hE hM hS 0 (by omega) rfl dX1_passOne_65 (fun x_114 H locs ex_115 hM hS => ?_)
        refine lv_iinc (v := nI (i_4 + 1)) (lv' := [(5, .int (nI (i_4 + 1))), (6, .ref (ad 2 i_4)), (0, .ref (ad 0 0)), (1, .int a0), (2, .int a1), (3, .ref (ad 1 0)), (4, .int 25)]) hx hb dX1_passOne_66 hl (k := 6) rfl (nI_add i_4 1) (by decide) rfl (fun ls hl => ?_)
        refine lv_goto (tgt := 12) hx hb dX1_passOne_69 (by decide) ?_
        exact ih (i_4 + 1) (by omega) H locs ls (by have hF : x_114 = cp1 x a0 a1 (i_4 + 1) := (by subst ex_115 ex_112 ex_110 ev_107 ex_100; exact (cp1_s _ _ _ _).symm); rw [← hF]; exact hM) hS (lv_sub hl [2, 3, 4, 5, 6, 0] (by subst ex_115 ex_112 ex_110 ev_107 ex_100; rfl))
      refine lv_if_ge (tgt := 46) hx hb dX1_passOne_28 (by decide) (fun c_102 => ?_) (fun c_102 => ?_)
      · refine lv_iconst (v := 0) hx hb dX1_passOne_46 (by decide) ?_
        exact J_108 H locs _ hM hS (by first | (rw [if_pos c_102]) | rfl | (simp only [c_102, if_true, if_false, ite_true, ite_false, not_false_eq_true, reduceIte]))
      · refine lv_bipush (v := 9) hx hb dX1_passOne_31 (by decide) ?_
        refine lv_aload hx hb dX1_passOne_33 (lv_at hl 0 rfl) ?_
        refine m_get hx hb hts in_X2 hown hE hM 2 i_4 (cw_2 (by omega)) (ci := 2) rfl 4 (by decide) (hts _ q146) (fun _ h9 => h9) rfl dX1_passOne_35 ?_
        refine lv_iload_n hx hb dX1_passOne_38 rfl (lv_at hl 3 rfl) ?_
        refine lv_iadd hx hb dX1_passOne_39 ?_
        refine m_cpi (m_rS (As := [.int 9, .int ((x_99.1 4 i_4) + a1)]) (rest := [.ref (ad 2 i_4)]) hcf (k_J11_min l g A (cwM g ad Mx x_99) 9 ((x_99.1 4 i_4) + a1)) (va_cwS 2 hts (lw_S q496 q497 q50 q498) rfl rfl rfl (by decide +kernel) ⟨Nat.le_of_ble_eq_true rfl, Nat.le_of_ble_eq_true rfl⟩) hE hA hM hS rfl hl.1 rfl (Nat.le_of_ble_eq_true rfl) dX1_passOne_40 ⟨Nat.le_of_ble_eq_true rfl, Nat.le_of_ble_eq_true rfl⟩) hS (fun H locs hM hS => ?_)
        refine lv_goto (tgt := 47) hx hb dX1_passOne_43 (by decide) ?_
        exact J_108 H locs _ hM hS (by first | (rw [if_neg c_102]) | rfl | (simp only [c_102, if_true, if_false, ite_true, ite_false, not_false_eq_true, reduceIte]))
  exact L_4 (25) 0 (by omega) H locs ls hM hS (lv_sub hl [3, 4, 5, 2, 1, 0] rfl)

abbrev rm_X1_pass_ok : Room := { frames := 6, cells := 600, slots := 1200, locals := 133 }
set_option maxHeartbeats 400000 in
theorem k_X1_pass_ok (l : Launch) (g : GG) (A : Nat → Prop) (ad : Nat → Nat → Nat) (Mx : MM) (x : St) (n : Nat) (a1 a2 : Int32) (hg : cGood x) (hf : okN a2 10) (hn : n ≤ 24) (hm : nt x 1 0 + n ≤ 600) (hMx : Mx 20 0 = none) (hw : cpsW (nI n) a1 a2 = 1) (hv : cpsV x (nI n) = 1) : Met l yX1_pass (ws_ yX1_pass cX1_pass 5 (some .int)) rm_X1_pass_ok (va_Pc [.ref (ad 0 0), .int (nI n), .int a1, .int a2] (mPre g A (cwM g ad Mx x))) (pQi g A ((psL x a1 a2 n).1 1 0) (cwM g ad Mx (psL x a1 a2 n))) 600 1200 A := by
  refine m_start RX1 rfl (by decide) (Nat.le_of_ble_eq_true rfl) ?_
  intro p e s m args below meth c hcf hr hlk hnm hE hA H locs hM hS ls hl
  have hx := hcf.1
  have hb := hcf.2.1
  have hml := hcf.2.2.1
  have hown := hcf.2.2.2.1
  have hts := hcf.2.2.2.2
  have hl : lv_has ls 5 [(0, .ref (ad 0 0)), (1, .int (nI n)), (2, .int a1), (3, .int a2)] := hl
  generalize hQ : MQ below (pQi g A ((psL x a1 a2 n).1 1 0) (cwM g ad Mx (psL x a1 a2 n))) args s 600 1200 A = Q
  refine lv_iload_n hx hb dX1_pass_0 rfl (lv_at hl 1 rfl) ?_
  refine lv_iconst (v := 1) hx hb dX1_pass_1 (by decide) ?_
  refine lv_bipush (v := 24) hx hb dX1_pass_2 (by decide) ?_
  refine m_cpi (m_rS (As := [.int (nI n), .int 1, .int 24]) (rest := []) hcf (k_X1_isIn l g A (cwM g ad Mx x) (nI n) 1 24) (va_cwS 3 hts (lw_S q420 q421 q35 q422) rfl rfl rfl (by decide +kernel) ⟨Nat.le_of_ble_eq_true rfl, Nat.le_of_ble_eq_true rfl⟩) hE hA hM hS rfl hl.1 rfl (Nat.le_of_ble_eq_true rfl) dX1_pass_4 ⟨Nat.le_of_ble_eq_true rfl, Nat.le_of_ble_eq_true rfl⟩) hS (fun H locs hM hS => ?_)
  have J_15 : ∀ (H : Heap) (locs : List Loc) (v_13 : Int32), mW g.1 A (cwM g ad Mx x) H → va_S A s.heap H locs → ((if (inF (nI n) 1 24) = 0 then 0 else (if (inF a1 (-50) 30) = 0 then 0 else (if (inF a2 0 9) = 0 then 0 else 1))) = v_13) → W p l e rm_X1_pass_ok s m args below meth c H locs 0 0 Q (F0 m 36 ls [.int v_13]) := by
    intro H locs v_13 hM hS ev_14
    refine m_topI (y := 1) ((by subst ev_14; exact hw)) ?_
    refine m_cpv (m_rS (As := [.int 1]) (rest := []) hcf (k_X1_inRange_ok l g A (cwM g ad Mx x)) (va_cwS 1 hts (lw_S q439 q440 q35 q441) rfl rfl rfl (by decide +kernel) ⟨Nat.le_of_ble_eq_true rfl, Nat.le_of_ble_eq_true rfl⟩) hE hA hM hS rfl hl.1 rfl (Nat.le_of_ble_eq_true rfl) dX1_pass_36 ⟨Nat.le_of_ble_eq_true rfl, Nat.le_of_ble_eq_true rfl⟩) hS (fun H locs hM hS => ?_)
    refine lv_aload_n hx hb dX1_pass_39 rfl (lv_at hl 0 rfl) ?_
    refine m_get hx hb hts in_X1 hown hE hM 0 0 cw_0 (ci := 0) rfl 7 (by decide) (hts _ q187) (fun _ h9 => h9) rfl dX1_pass_40 ?_
    refine lv_iload_n hx hb dX1_pass_43 rfl (lv_at hl 1 rfl) ?_
    refine lv_iadd hx hb dX1_pass_44 ?_
    refine lv_sipush (v := 600) hx hb dX1_pass_45 (by decide) ?_
    have J_20 : ∀ (v_18 : Int32), ((if 600 < ((x.1 1 0) + (nI n)) then 0 else 1) = v_18) → W p l e rm_X1_pass_ok s m args below meth c H locs 0 0 Q (F0 m 56 ls [.int v_18]) := by
      intro v_18 ev_19
      refine m_topI (y := 1) ((by subst ev_19 ev_14; exact hv)) ?_
      refine m_cpv (m_rS (As := [.int 1]) (rest := []) hcf (k_X1_allowed_ok l g A (cwM g ad Mx x)) (va_cwS 1 hts (lw_S q473 q474 q35 q475) rfl rfl rfl (by decide +kernel) ⟨Nat.le_of_ble_eq_true rfl, Nat.le_of_ble_eq_true rfl⟩) hE hA hM hS rfl hl.1 rfl (Nat.le_of_ble_eq_true rfl) dX1_pass_56 ⟨Nat.le_of_ble_eq_true rfl, Nat.le_of_ble_eq_true rfl⟩) hS (fun H locs hM hS => ?_)
      refine lv_iconst (v := 0) hx hb dX1_pass_59 (by decide) ?_
      refine lv_istore (lv' := [(4, .int 0), (0, .ref (ad 0 0)), (1, .int (nI n)), (2, .int a1), (3, .int a2)]) hx hb dX1_pass_60 hl (by decide) rfl (fun ls hl => ?_)
      have L_23 : ∀ (n9 i_23 : Nat), i_23 + n9 = n → ∀ (H : Heap) (locs : List Loc) (ls : Array Slot), mW g.1 A (cwM g ad Mx (psL x a1 a2 i_23)) H → va_S A s.heap H locs → lv_has ls 5 [(0, .ref (ad 0 0)), (1, .int (nI n)), (2, .int a1), (3, .int a2), (4, .int (nI i_23))] → W p l e rm_X1_pass_ok s m args below meth c H locs (25 * i_23) (50 * i_23) Q (F0 m 62 ls []) := by
        intro n9
        induction n9 with
        | zero =>
          intro i_23 hi H locs ls hM hS hl 
          have hi : n = i_23 := by omega
          subst hi
          obtain ⟨x_25, ex_26⟩ : ∃ z : St, psL x a1 a2 n = z := ⟨_, rfl⟩
          rw [ex_26] at hM
          refine lv_iload hx hb dX1_pass_62 (lv_at hl 4 rfl) ?_
          refine lv_iload_n hx hb dX1_pass_64 rfl (lv_at hl 1 rfl) ?_
          refine lv_icmp_ge (tgt := 80) hx hb dX1_pass_65 (by decide) (fun _ => ?_) (fun c9 => absurd (nI_le (Nat.le_refl _) (by omega)) c9)
          refine lv_aload_n hx hb dX1_pass_80 rfl (lv_at hl 0 rfl) ?_
          refine m_get hx hb hts in_X1 hown hE hM 0 0 cw_0 (ci := 0) rfl 7 (by decide) (hts _ q187) (fun _ h9 => h9) rfl dX1_pass_81 ?_
          rw [← hQ]
          exact m_iret () hx hb hr rfl hlk (by have hF : x_25 = psL x a1 a2 n := (by subst ex_26 ev_19 ev_14; first | rfl); rw [← hF]; exact hM) hS (by subst ex_26 ev_19 ev_14; first | rfl) (by first | decide | omega) (by first | decide | omega) dX1_pass_84
        | succ n9 ih =>
          intro i_23 hi H locs ls hM hS hl 
          have hlt_i_23 : i_23 < n := by omega
          obtain ⟨x_28, ex_29⟩ : ∃ z : St, psL x a1 a2 i_23 = z := ⟨_, rfl⟩
          rw [ex_29] at hM
          obtain ⟨hg9, hm8⟩ := good_psL (air := a1) (n := n) hg hf hm i_23 (by omega)
          rw [ex_29] at hg9 hm8
          refine lv_iload hx hb dX1_pass_62 (lv_at hl 4 rfl) ?_
          refine lv_iload_n hx hb dX1_pass_64 rfl (lv_at hl 1 rfl) ?_
          refine lv_icmp_ge (tgt := 80) hx hb dX1_pass_65 (by decide) (fun c9 => absurd c9 (nI_ge (by omega) (by omega))) (fun _ => ?_)
          refine lv_aload_n hx hb dX1_pass_68 rfl (lv_at hl 0 rfl) ?_
          refine lv_iload_n hx hb dX1_pass_69 rfl (lv_at hl 2 rfl) ?_
          refine lv_iload_n hx hb dX1_pass_70 rfl (lv_at hl 3 rfl) ?_
          refine m_cpv (m_rV (As := [.int a1, .int a2]) (rest := []) hcf (k_X1_passOne l g A ad Mx x_28 a1 a2 hg9.1 hg9.2.1 hg9.2.2 hf (by omega) hMx) (cwV 2 hts (lw_V q492 q494 qs8 q35 q495) rfl rfl rfl (by decide +kernel) ⟨Nat.le_of_ble_eq_true rfl, Nat.le_of_ble_eq_true rfl⟩) hE hA hM hS 0 0 cw_0 (ci := 0) rfl rfl hl.1 rfl (Nat.le_of_ble_eq_true rfl) dX1_pass_71 ⟨(by show (25 * i_23) + 25 ≤ 600; omega), (by show (50 * i_23) + 50 ≤ 1200; omega)⟩) hS (fun H locs hM hS => ?_)
          obtain ⟨x_30, ex_31⟩ : ∃ z : St, cpaF x_28 a1 a2 = z := ⟨_, rfl⟩
          rw [ex_31] at hM
          refine lv_iinc (v := nI (i_23 + 1)) (lv' := [(4, .int (nI (i_23 + 1))), (0, .ref (ad 0 0)), (1, .int (nI n)), (2, .int a1), (3, .int a2)]) hx hb dX1_pass_74 hl (k := 4) rfl (nI_add i_23 1) (by decide) rfl (fun ls hl => ?_)
          refine lv_goto (tgt := 62) hx hb dX1_pass_77 (by decide) ?_
          refine W.widen (k := 25 * (i_23 + 1)) (n := 50 * (i_23 + 1)) (by first | omega | decide) (by first | omega | decide) ?_
          exact ih (i_23 + 1) (by omega) H locs ls (by have hF : x_30 = psL x a1 a2 (i_23 + 1) := (by subst ex_31 ex_29; exact (psL_s _ _ _ _).symm); rw [← hF]; exact hM) hS (lv_sub hl [1, 2, 3, 4, 0] (by subst ex_31 ex_29; rfl))
      refine W.widen (k := 0) (n := 0) (by first | omega | decide) (by first | omega | decide) ?_
      exact L_23 (n) 0 (by omega) H locs ls hM hS (lv_sub hl [1, 2, 3, 4, 0] rfl)
    refine lv_icmp_gt (tgt := 55) hx hb dX1_pass_48 (by decide) (fun c_17 => ?_) (fun c_17 => ?_)
    · refine lv_iconst (v := 0) hx hb dX1_pass_55 (by decide) ?_
      exact J_20 _ (by first | (rw [if_pos c_17]) | rfl | (simp only [c_17, if_true, if_false, ite_true, ite_false, not_false_eq_true, reduceIte]))
    · refine lv_iconst (v := 1) hx hb dX1_pass_51 (by decide) ?_
      refine lv_goto (tgt := 56) hx hb dX1_pass_52 (by decide) ?_
      exact J_20 _ (by first | (rw [if_neg c_17]) | rfl | (simp only [c_17, if_true, if_false, ite_true, ite_false, not_false_eq_true, reduceIte]))
  refine lv_if_eq (tgt := 35) hx hb dX1_pass_7 (by decide) (fun c_4 => ?_) (fun c_4 => ?_)
  · refine lv_iconst (v := 0) hx hb dX1_pass_35 (by decide) ?_
    exact J_15 H locs _ hM hS (by first | (rw [if_pos c_4]) | rfl | (simp only [c_4, if_true, if_false, ite_true, ite_false, not_false_eq_true, reduceIte]))
  · refine lv_iload_n hx hb dX1_pass_10 rfl (lv_at hl 2 rfl) ?_
    refine lv_bipush (v := (-50)) hx hb dX1_pass_11 (by decide) ?_
    refine lv_bipush (v := 30) hx hb dX1_pass_13 (by decide) ?_
    refine m_cpi (m_rS (As := [.int a1, .int (-50), .int 30]) (rest := []) hcf (k_X1_isIn l g A (cwM g ad Mx x) a1 (-50) 30) (va_cwS 3 hts (lw_S q420 q421 q35 q422) rfl rfl rfl (by decide +kernel) ⟨Nat.le_of_ble_eq_true rfl, Nat.le_of_ble_eq_true rfl⟩) hE hA hM hS rfl hl.1 rfl (Nat.le_of_ble_eq_true rfl) dX1_pass_15 ⟨Nat.le_of_ble_eq_true rfl, Nat.le_of_ble_eq_true rfl⟩) hS (fun H locs hM hS => ?_)
    refine lv_if_eq (tgt := 35) hx hb dX1_pass_18 (by decide) (fun c_8 => ?_) (fun c_8 => ?_)
    · refine lv_iconst (v := 0) hx hb dX1_pass_35 (by decide) ?_
      exact J_15 H locs _ hM hS (by first | (rw [if_neg c_4, if_pos c_8]) | rfl | (simp only [c_4, c_8, if_true, if_false, ite_true, ite_false, not_false_eq_true, reduceIte]))
    · refine lv_iload_n hx hb dX1_pass_21 rfl (lv_at hl 3 rfl) ?_
      refine lv_iconst (v := 0) hx hb dX1_pass_22 (by decide) ?_
      refine lv_bipush (v := 9) hx hb dX1_pass_23 (by decide) ?_
      refine m_cpi (m_rS (As := [.int a2, .int 0, .int 9]) (rest := []) hcf (k_X1_isIn l g A (cwM g ad Mx x) a2 0 9) (va_cwS 3 hts (lw_S q420 q421 q35 q422) rfl rfl rfl (by decide +kernel) ⟨Nat.le_of_ble_eq_true rfl, Nat.le_of_ble_eq_true rfl⟩) hE hA hM hS rfl hl.1 rfl (Nat.le_of_ble_eq_true rfl) dX1_pass_25 ⟨Nat.le_of_ble_eq_true rfl, Nat.le_of_ble_eq_true rfl⟩) hS (fun H locs hM hS => ?_)
      refine lv_if_eq (tgt := 35) hx hb dX1_pass_28 (by decide) (fun c_12 => ?_) (fun c_12 => ?_)
      · refine lv_iconst (v := 0) hx hb dX1_pass_35 (by decide) ?_
        exact J_15 H locs _ hM hS (by first | (rw [if_neg c_4, if_neg c_8, if_pos c_12]) | rfl | (simp only [c_4, c_8, c_12, if_true, if_false, ite_true, ite_false, not_false_eq_true, reduceIte]))
      · refine lv_iconst (v := 1) hx hb dX1_pass_31 (by decide) ?_
        refine lv_goto (tgt := 36) hx hb dX1_pass_32 (by decide) ?_
        exact J_15 H locs _ hM hS (by first | (rw [if_neg c_4, if_neg c_8, if_neg c_12]) | rfl | (simp only [c_4, c_8, c_12, if_true, if_false, ite_true, ite_false, not_false_eq_true, reduceIte]))

abbrev rm_X1_pass_n1 : Room := { frames := 7, cells := 1, slots := 6, locals := 102 }
set_option maxHeartbeats 400000 in
theorem k_X1_pass_n1 (l : Launch) (g : GG) (A : Nat → Prop) (hlt : l.stackTraces = false) (ad : Nat → Nat → Nat) (Mx : MM) (x : St) (a0 a1 a2 : Int32) (hw : cpsW a0 a1 a2 = 0) : vx_Met l yX1_pass (ws_ yX1_pass cX1_pass 5 (some .int)) rm_X1_pass_n1 (va_Pc [.ref (ad 0 0), .int a0, .int a1, .int a2] (mPre g A (cwM g ad Mx x))) pNo (mX g A "java/lang/IllegalArgumentException" (cwM g ad Mx x)) 1 6 A := by
  refine m_startX RX1 rfl (by decide) (Nat.le_of_ble_eq_true rfl) ?_
  intro p e s m args below meth c hcf hr hlk hnm hE hA ht H locs hM hS ls hl
  have hx := hcf.1
  have hb := hcf.2.1
  have hml := hcf.2.2.1
  have hown := hcf.2.2.2.1
  have hts := hcf.2.2.2.2
  have hl : lv_has ls 5 [(0, .ref (ad 0 0)), (1, .int a0), (2, .int a1), (3, .int a2)] := hl
  generalize hQ : vx_MQ below pNo (mX g A "java/lang/IllegalArgumentException" (cwM g ad Mx x)) args s 1 6 A = Q
  refine lv_iload_n hx hb dX1_pass_0 rfl (lv_at hl 1 rfl) ?_
  refine lv_iconst (v := 1) hx hb dX1_pass_1 (by decide) ?_
  refine lv_bipush (v := 24) hx hb dX1_pass_2 (by decide) ?_
  refine m_cpi (m_rS (As := [.int a0, .int 1, .int 24]) (rest := []) hcf (k_X1_isIn l g A (cwM g ad Mx x) a0 1 24) (va_cwS 3 hts (lw_S q420 q421 q35 q422) rfl rfl rfl (by decide +kernel) ⟨Nat.le_of_ble_eq_true rfl, Nat.le_of_ble_eq_true rfl⟩) hE hA hM hS rfl hl.1 rfl (Nat.le_of_ble_eq_true rfl) dX1_pass_4 ⟨Nat.le_of_ble_eq_true rfl, Nat.le_of_ble_eq_true rfl⟩) hS (fun H locs hM hS => ?_)
  have J_15 : ∀ (H : Heap) (locs : List Loc) (v_13 : Int32), mW g.1 A (cwM g ad Mx x) H → va_S A s.heap H locs → ((if (inF a0 1 24) = 0 then 0 else (if (inF a1 (-50) 30) = 0 then 0 else (if (inF a2 0 9) = 0 then 0 else 1))) = v_13) → W p l e rm_X1_pass_n1 s m args below meth c H locs 0 0 Q (F0 m 36 ls [.int v_13]) := by
    intro H locs v_13 hM hS ev_14
    refine m_topI (y := 0) ((by subst ev_14; exact hw)) ?_
    rw [← hQ]
    exact m_xend (m_xS (As := [.int 0]) (rest := []) hcf (k_X1_inRange_no l g A hlt (cwM g ad Mx x)) (va_cwS 1 hts (lw_S q439 q440 q35 q441) rfl rfl rfl (by decide +kernel) ⟨Nat.le_of_ble_eq_true rfl, Nat.le_of_ble_eq_true rfl⟩) hE hA hM hS rfl hl.1 rfl (Nat.le_of_ble_eq_true rfl) dX1_pass_36 ⟨Nat.le_of_ble_eq_true rfl, Nat.le_of_ble_eq_true rfl⟩) ht hlk hS (Nat.le_of_ble_eq_true rfl) (Nat.le_of_ble_eq_true rfl)
  refine lv_if_eq (tgt := 35) hx hb dX1_pass_7 (by decide) (fun c_4 => ?_) (fun c_4 => ?_)
  · refine lv_iconst (v := 0) hx hb dX1_pass_35 (by decide) ?_
    exact J_15 H locs _ hM hS (by first | (rw [if_pos c_4]) | rfl | (simp only [c_4, if_true, if_false, ite_true, ite_false, not_false_eq_true, reduceIte]))
  · refine lv_iload_n hx hb dX1_pass_10 rfl (lv_at hl 2 rfl) ?_
    refine lv_bipush (v := (-50)) hx hb dX1_pass_11 (by decide) ?_
    refine lv_bipush (v := 30) hx hb dX1_pass_13 (by decide) ?_
    refine m_cpi (m_rS (As := [.int a1, .int (-50), .int 30]) (rest := []) hcf (k_X1_isIn l g A (cwM g ad Mx x) a1 (-50) 30) (va_cwS 3 hts (lw_S q420 q421 q35 q422) rfl rfl rfl (by decide +kernel) ⟨Nat.le_of_ble_eq_true rfl, Nat.le_of_ble_eq_true rfl⟩) hE hA hM hS rfl hl.1 rfl (Nat.le_of_ble_eq_true rfl) dX1_pass_15 ⟨Nat.le_of_ble_eq_true rfl, Nat.le_of_ble_eq_true rfl⟩) hS (fun H locs hM hS => ?_)
    refine lv_if_eq (tgt := 35) hx hb dX1_pass_18 (by decide) (fun c_8 => ?_) (fun c_8 => ?_)
    · refine lv_iconst (v := 0) hx hb dX1_pass_35 (by decide) ?_
      exact J_15 H locs _ hM hS (by first | (rw [if_neg c_4, if_pos c_8]) | rfl | (simp only [c_4, c_8, if_true, if_false, ite_true, ite_false, not_false_eq_true, reduceIte]))
    · refine lv_iload_n hx hb dX1_pass_21 rfl (lv_at hl 3 rfl) ?_
      refine lv_iconst (v := 0) hx hb dX1_pass_22 (by decide) ?_
      refine lv_bipush (v := 9) hx hb dX1_pass_23 (by decide) ?_
      refine m_cpi (m_rS (As := [.int a2, .int 0, .int 9]) (rest := []) hcf (k_X1_isIn l g A (cwM g ad Mx x) a2 0 9) (va_cwS 3 hts (lw_S q420 q421 q35 q422) rfl rfl rfl (by decide +kernel) ⟨Nat.le_of_ble_eq_true rfl, Nat.le_of_ble_eq_true rfl⟩) hE hA hM hS rfl hl.1 rfl (Nat.le_of_ble_eq_true rfl) dX1_pass_25 ⟨Nat.le_of_ble_eq_true rfl, Nat.le_of_ble_eq_true rfl⟩) hS (fun H locs hM hS => ?_)
      refine lv_if_eq (tgt := 35) hx hb dX1_pass_28 (by decide) (fun c_12 => ?_) (fun c_12 => ?_)
      · refine lv_iconst (v := 0) hx hb dX1_pass_35 (by decide) ?_
        exact J_15 H locs _ hM hS (by first | (rw [if_neg c_4, if_neg c_8, if_pos c_12]) | rfl | (simp only [c_4, c_8, c_12, if_true, if_false, ite_true, ite_false, not_false_eq_true, reduceIte]))
      · refine lv_iconst (v := 1) hx hb dX1_pass_31 (by decide) ?_
        refine lv_goto (tgt := 36) hx hb dX1_pass_32 (by decide) ?_
        exact J_15 H locs _ hM hS (by first | (rw [if_neg c_4, if_neg c_8, if_neg c_12]) | rfl | (simp only [c_4, c_8, c_12, if_true, if_false, ite_true, ite_false, not_false_eq_true, reduceIte]))

abbrev rm_X1_pass_n2 : Room := { frames := 7, cells := 1, slots := 6, locals := 102 }
set_option maxHeartbeats 400000 in
theorem k_X1_pass_n2 (l : Launch) (g : GG) (A : Nat → Prop) (hlt : l.stackTraces = false) (ad : Nat → Nat → Nat) (Mx : MM) (x : St) (a0 a1 a2 : Int32) (hw : cpsW a0 a1 a2 = 1) (hv : cpsV x a0 = 0) : vx_Met l yX1_pass (ws_ yX1_pass cX1_pass 5 (some .int)) rm_X1_pass_n2 (va_Pc [.ref (ad 0 0), .int a0, .int a1, .int a2] (mPre g A (cwM g ad Mx x))) pNo (mX g A "java/lang/IllegalStateException" (cwM g ad Mx x)) 1 6 A := by
  refine m_startX RX1 rfl (by decide) (Nat.le_of_ble_eq_true rfl) ?_
  intro p e s m args below meth c hcf hr hlk hnm hE hA ht H locs hM hS ls hl
  have hx := hcf.1
  have hb := hcf.2.1
  have hml := hcf.2.2.1
  have hown := hcf.2.2.2.1
  have hts := hcf.2.2.2.2
  have hl : lv_has ls 5 [(0, .ref (ad 0 0)), (1, .int a0), (2, .int a1), (3, .int a2)] := hl
  generalize hQ : vx_MQ below pNo (mX g A "java/lang/IllegalStateException" (cwM g ad Mx x)) args s 1 6 A = Q
  refine lv_iload_n hx hb dX1_pass_0 rfl (lv_at hl 1 rfl) ?_
  refine lv_iconst (v := 1) hx hb dX1_pass_1 (by decide) ?_
  refine lv_bipush (v := 24) hx hb dX1_pass_2 (by decide) ?_
  refine m_cpi (m_rS (As := [.int a0, .int 1, .int 24]) (rest := []) hcf (k_X1_isIn l g A (cwM g ad Mx x) a0 1 24) (va_cwS 3 hts (lw_S q420 q421 q35 q422) rfl rfl rfl (by decide +kernel) ⟨Nat.le_of_ble_eq_true rfl, Nat.le_of_ble_eq_true rfl⟩) hE hA hM hS rfl hl.1 rfl (Nat.le_of_ble_eq_true rfl) dX1_pass_4 ⟨Nat.le_of_ble_eq_true rfl, Nat.le_of_ble_eq_true rfl⟩) hS (fun H locs hM hS => ?_)
  have J_15 : ∀ (H : Heap) (locs : List Loc) (v_13 : Int32), mW g.1 A (cwM g ad Mx x) H → va_S A s.heap H locs → ((if (inF a0 1 24) = 0 then 0 else (if (inF a1 (-50) 30) = 0 then 0 else (if (inF a2 0 9) = 0 then 0 else 1))) = v_13) → W p l e rm_X1_pass_n2 s m args below meth c H locs 0 0 Q (F0 m 36 ls [.int v_13]) := by
    intro H locs v_13 hM hS ev_14
    refine m_topI (y := 1) ((by subst ev_14; exact hw)) ?_
    refine m_cpv (m_rS (As := [.int 1]) (rest := []) hcf (k_X1_inRange_ok l g A (cwM g ad Mx x)) (va_cwS 1 hts (lw_S q439 q440 q35 q441) rfl rfl rfl (by decide +kernel) ⟨Nat.le_of_ble_eq_true rfl, Nat.le_of_ble_eq_true rfl⟩) hE hA hM hS rfl hl.1 rfl (Nat.le_of_ble_eq_true rfl) dX1_pass_36 ⟨Nat.le_of_ble_eq_true rfl, Nat.le_of_ble_eq_true rfl⟩) hS (fun H locs hM hS => ?_)
    refine lv_aload_n hx hb dX1_pass_39 rfl (lv_at hl 0 rfl) ?_
    refine m_get hx hb hts in_X1 hown hE hM 0 0 cw_0 (ci := 0) rfl 7 (by decide) (hts _ q187) (fun _ h9 => h9) rfl dX1_pass_40 ?_
    refine lv_iload_n hx hb dX1_pass_43 rfl (lv_at hl 1 rfl) ?_
    refine lv_iadd hx hb dX1_pass_44 ?_
    refine lv_sipush (v := 600) hx hb dX1_pass_45 (by decide) ?_
    have J_20 : ∀ (v_18 : Int32), ((if 600 < ((x.1 1 0) + a0) then 0 else 1) = v_18) → W p l e rm_X1_pass_n2 s m args below meth c H locs 0 0 Q (F0 m 56 ls [.int v_18]) := by
      intro v_18 ev_19
      refine m_topI (y := 0) ((by subst ev_19 ev_14; exact hv)) ?_
      rw [← hQ]
      exact m_xend (m_xS (As := [.int 0]) (rest := []) hcf (k_X1_allowed_no l g A hlt (cwM g ad Mx x)) (va_cwS 1 hts (lw_S q473 q474 q35 q475) rfl rfl rfl (by decide +kernel) ⟨Nat.le_of_ble_eq_true rfl, Nat.le_of_ble_eq_true rfl⟩) hE hA hM hS rfl hl.1 rfl (Nat.le_of_ble_eq_true rfl) dX1_pass_56 ⟨Nat.le_of_ble_eq_true rfl, Nat.le_of_ble_eq_true rfl⟩) ht hlk hS (Nat.le_of_ble_eq_true rfl) (Nat.le_of_ble_eq_true rfl)
    refine lv_icmp_gt (tgt := 55) hx hb dX1_pass_48 (by decide) (fun c_17 => ?_) (fun c_17 => ?_)
    · refine lv_iconst (v := 0) hx hb dX1_pass_55 (by decide) ?_
      exact J_20 _ (by first | (rw [if_pos c_17]) | rfl | (simp only [c_17, if_true, if_false, ite_true, ite_false, not_false_eq_true, reduceIte]))
    · refine lv_iconst (v := 1) hx hb dX1_pass_51 (by decide) ?_
      refine lv_goto (tgt := 56) hx hb dX1_pass_52 (by decide) ?_
      exact J_20 _ (by first | (rw [if_neg c_17]) | rfl | (simp only [c_17, if_true, if_false, ite_true, ite_false, not_false_eq_true, reduceIte]))
  refine lv_if_eq (tgt := 35) hx hb dX1_pass_7 (by decide) (fun c_4 => ?_) (fun c_4 => ?_)
  · refine lv_iconst (v := 0) hx hb dX1_pass_35 (by decide) ?_
    exact J_15 H locs _ hM hS (by first | (rw [if_pos c_4]) | rfl | (simp only [c_4, if_true, if_false, ite_true, ite_false, not_false_eq_true, reduceIte]))
  · refine lv_iload_n hx hb dX1_pass_10 rfl (lv_at hl 2 rfl) ?_
    refine lv_bipush (v := (-50)) hx hb dX1_pass_11 (by decide) ?_
    refine lv_bipush (v := 30) hx hb dX1_pass_13 (by decide) ?_
    refine m_cpi (m_rS (As := [.int a1, .int (-50), .int 30]) (rest := []) hcf (k_X1_isIn l g A (cwM g ad Mx x) a1 (-50) 30) (va_cwS 3 hts (lw_S q420 q421 q35 q422) rfl rfl rfl (by decide +kernel) ⟨Nat.le_of_ble_eq_true rfl, Nat.le_of_ble_eq_true rfl⟩) hE hA hM hS rfl hl.1 rfl (Nat.le_of_ble_eq_true rfl) dX1_pass_15 ⟨Nat.le_of_ble_eq_true rfl, Nat.le_of_ble_eq_true rfl⟩) hS (fun H locs hM hS => ?_)
    refine lv_if_eq (tgt := 35) hx hb dX1_pass_18 (by decide) (fun c_8 => ?_) (fun c_8 => ?_)
    · refine lv_iconst (v := 0) hx hb dX1_pass_35 (by decide) ?_
      exact J_15 H locs _ hM hS (by first | (rw [if_neg c_4, if_pos c_8]) | rfl | (simp only [c_4, c_8, if_true, if_false, ite_true, ite_false, not_false_eq_true, reduceIte]))
    · refine lv_iload_n hx hb dX1_pass_21 rfl (lv_at hl 3 rfl) ?_
      refine lv_iconst (v := 0) hx hb dX1_pass_22 (by decide) ?_
      refine lv_bipush (v := 9) hx hb dX1_pass_23 (by decide) ?_
      refine m_cpi (m_rS (As := [.int a2, .int 0, .int 9]) (rest := []) hcf (k_X1_isIn l g A (cwM g ad Mx x) a2 0 9) (va_cwS 3 hts (lw_S q420 q421 q35 q422) rfl rfl rfl (by decide +kernel) ⟨Nat.le_of_ble_eq_true rfl, Nat.le_of_ble_eq_true rfl⟩) hE hA hM hS rfl hl.1 rfl (Nat.le_of_ble_eq_true rfl) dX1_pass_25 ⟨Nat.le_of_ble_eq_true rfl, Nat.le_of_ble_eq_true rfl⟩) hS (fun H locs hM hS => ?_)
      refine lv_if_eq (tgt := 35) hx hb dX1_pass_28 (by decide) (fun c_12 => ?_) (fun c_12 => ?_)
      · refine lv_iconst (v := 0) hx hb dX1_pass_35 (by decide) ?_
        exact J_15 H locs _ hM hS (by first | (rw [if_neg c_4, if_neg c_8, if_pos c_12]) | rfl | (simp only [c_4, c_8, c_12, if_true, if_false, ite_true, ite_false, not_false_eq_true, reduceIte]))
      · refine lv_iconst (v := 1) hx hb dX1_pass_31 (by decide) ?_
        refine lv_goto (tgt := 36) hx hb dX1_pass_32 (by decide) ?_
        exact J_15 H locs _ hM hS (by first | (rw [if_neg c_4, if_neg c_8, if_neg c_12]) | rfl | (simp only [c_4, c_8, c_12, if_true, if_false, ite_true, ite_false, not_false_eq_true, reduceIte]))
