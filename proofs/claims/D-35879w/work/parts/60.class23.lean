/-! the law's own wrappers: what is thrown is caught -/
set_option maxRecDepth 100000
theorem m_startW {l : Launch} {y : MethodName} {cc : ByteArray} {maxL : Nat} {ret : Option FieldType} {hh : List (Nat × Nat × Nat × Nat)} {rm : Room} {av : List Value} {g : GG} {A : Nat → Prop} {M : MM} {Qc : Array Value → State → Outcome → State → Prop} {mc ms : Nat} (own : String) (hown : y.cls = own) (hy : plainName y.cls = true) (hlen : (lg_sl av).length ≤ maxL)
    (body : ∀ (p : Program) (e : Env) (s : State) (m : MethodId) (args : Array Value) (below : List Frame) (meth : Method) (c : Code), CallFix p m c cc maxL s args lw_all own → meth.sig.returnType = ret → meth.locks = false → meth.name = y.name → amb g A s s.heap → (∀ q : Nat, s.heap.size ≤ q → A q) → c.exceptionTable.toList = tableOf hh → ∀ (H : Heap) (locs : List Loc), mW g.1 A M H → va_S A s.heap H locs →
      ∀ ls : Array Slot, lv_has ls maxL (lv_args 0 av) → W p l e rm s m args below meth c H locs 0 0 (MQ below Qc args s mc ms A) (F0 m 0 ls [])) : Met l y (wsW_ y cc maxL ret hh) rm (va_Pc av (mPre g A M)) Qc mc ms A := by
  refine MetFree.of_bodyS (code := cc) (maxLocals := maxL) (ret := ret) hy ?_ ?_
  · intro args s m h hn
    obtain ⟨m9, meth, c, hn9, h1, h2, h3, h4, -, h5, h6, -⟩ := Cond.codeWith_spec (atoms_spec (ws := wsW_ y cc maxL ret hh) h _ List.mem_cons_self)
    cases hn.symm.trans hn9
    exact ⟨meth, c, h1, h2, h3, h4, h5, h6⟩
  · intro p e s m args below meth c s₁ B hml hv _
    have hh0 : s₁.heap = s.heap := by rw [B.state]; rfl
    obtain ⟨rfl, hE, hM, hA⟩ := hv
    have htsA := atoms_spec (ws := wsW_ y cc maxL ret hh) B.pre
    have hts : ∀ w ∈ lw_all, w.before _ s = true := fun w h => htsA w (List.mem_cons_of_mem _ h)
    have how : s.vm.findClass y.cls = some m.cls := findClass_of_methodNamed B.named
    rw [hown] at how
    have hl := lv_entry av (n := maxL) hlen
    have htb := vx_table (x := y) B (htsA _ List.mem_cons_self)
    have K : W p l e rm s m _ below meth c s.heap [] 0 0 (MQ below Qc _ s mc ms A) (F0 m 0 _ []) := body p e s m _ below meth c ⟨B.exec, B.bytes, hml, how, hts⟩ B.returns B.notSynchronized (name_of_methodNamed B.named B.method).1 hE hA htb s.heap [] hM va_S.rf _ hl
    rw [← lg_entry_eq] at K
    obtain ⟨t, a1, o, b1, b2, b3⟩ := K s₁ hh0 (Stand.of_body B)
    exact ⟨t, o, a1, b1, b2, b3⟩
section MCT
variable {p : Program} {l : Launch} {e : Env} {R : Room} {s : State} {m : MethodId} {args : Array Value} {below : List Frame} {meth : Method} {c : Code} {H : Heap} {locs : List Loc} {cells slots : Nat} {Q : State → Prop}
variable {pc mc ms : Nat} {ls : Array Slot} {rest st : List Value} {g : GG} {A : Nat → Prop} {M' : MM} {E0 own name : String} {aa : Array Value}
/-- a callee throws, and it is caught here -/
theorem m_xcatch (hr : vx_Run p l e R s m args below meth c H locs cells slots mc ms (F0 m pc ls st) rest (pNo aa) (mX g A E0 M') A) (hS : va_S A s.heap H locs) (hown : s.vm.findClass own = some m.cls) (pre : List ExceptionTableEntry) (x : ExceptionTableEntry) (suf : List ExceptionTableEntry) (hsplit : c.exceptionTable.toList = pre ++ x :: suf)
    (hpass : ∀ z ∈ pre, covers z pc = false ∨ (z.catchType ≠ 0 ∧ ∃ nm : String, (Cond.classLink own z.catchType nm).before args s = true ∧ va_Nc E0 nm s)) (hx : covers x pc = true) (h0 : x.catchType ≠ 0) (hlink : (Cond.classLink own x.catchType name).before args s = true) (hcast : (Cond.castable E0 name).before args s = true)
    (kk : ∀ (q : Nat) (H1 : Heap) (locs1 : List Loc), mW g.1 A M' H1 → va_S A s.heap H1 locs1 → W p l e R s m args below meth c H1 locs1 (cells + mc) (slots + ms) Q (F0 m x.handlerPc ls [.ref q])) : W p l e R s m args below meth c H locs cells slots Q (F0 m pc ls st) := by
  intro T hT X
  rcases hr T hT X with ⟨v, st₀, t, T', L, h1, X', hL, e1, e2, hf, -⟩ | ⟨q, st₀, t, T', L, E, ce, h1, X', hL, e1, e2, ⟨u, -, ⟨hE0, hM⟩, hF⟩, hce, hcv, hcl, stp⟩
  · exact hf.elim
  · obtain ⟨k1, k2, k3⟩ := vx_keep h1 e1 hS (fun _ _ h => h) (fun _ h => h) hL hF
    subst hE0
    obtain ⟨t2, a1, b1⟩ := vx_catch (H := T'.heap) (pc := pc) (ls := ls) (rest := rest) (Q := Q) hown pre x suf hsplit hpass hx h0 hlink hcast (by rw [e1]; exact hce) hcv hcl (kk q T'.heap _ (by rw [e1]; exact hM) k3) T' rfl X'
    exact ⟨t2, stp.trans a1, b1⟩
end MCT
/-- the law's row of one long -/
def outF (v : Int64) : Nat → Int64 := fun j => if j = 0 then v else 0
def Mo (g : GG) (oa : Nat) (v : Int64) : MM := mUp mNil 50 0 (oa, .inl (g.2.1 1, 1, .inr (.inl (outF v))))
theorem outF_up (v w : Int64) : va_up (outF v) 0 w = outF w := by
  funext j
  show (if j = 0 then w else outF v j) = outF w j
  unfold outF
  by_cases h : j = 0
  · rw [if_pos h, if_pos h]
  · rw [if_neg h, if_neg h, if_neg h]
theorem cw_out {g : GG} {ad : Nat → Nat → Nat} {x : St} {oa : Nat} {v : Int64} : cwM g ad (Mo g oa v) x 50 0 = some (oa, .inl (g.2.1 1, 1, .inr (.inl (outF v)))) := (cw_ext (by decide)).trans (mUp_self _ _ _ _)
theorem cw_out2 {g : GG} {ad : Nat → Nat → Nat} {x : St} {oa : Nat} {v w : Int64} (j i : Nat) (h : ¬ (j = 50 ∧ i = 0)) : cwM g ad (Mo g oa w) x j i = cwM g ad (Mo g oa v) x j i := by
  by_cases hj : 11 < j
  · rw [cw_ext hj, cw_ext hj]
    unfold Mo
    rw [mUp_ne _ _ h, mUp_ne _ _ h]
  · have hb : Mo g oa w j i = Mo g oa v j i := by
      unfold Mo
      rw [mUp_ne _ _ h, mUp_ne _ _ h]
    unfold cwM
    rw [hb]
theorem Mo_n (g : GG) (oa : Nat) (v : Int64) {j i : Nat} (h : ¬ (j = 50 ∧ i = 0)) : Mo g oa v j i = none := mUp_ne _ _ h
section MOR
variable {p : Program} {l : Launch} {e : Env} {R : Room} {s : State} {m : MethodId} {args : Array Value} {below : List Frame} {meth : Method} {c : Code} {H : Heap} {locs : List Loc} {cells slots : Nat} {Q : State → Prop}
variable {cc : ByteArray} {pc nL : Nat} {ls : Array Slot} {rest : List Value} {g : GG} {A : Nat → Prop} {ad : Nat → Nat → Nat} {x : St} {own : String} {oa : Nat}
theorem mo_st (S : CallFix p m c cc nL s args lw_all own) (hE : amb g A s s.heap) {v w : Int64} (hM : mW g.1 A (cwM g ad (Mo g oa v) x) H) (hS : va_S A s.heap H locs) (hdg : decode cc pc = .ok (.lastore, 1))
    (kk : ∀ (H1 : Heap) (locs1 : List Loc), mW g.1 A (cwM g ad (Mo g oa w) x) H1 → va_S A s.heap H1 locs1 → W p l e R s m args below meth c H1 locs1 cells slots Q (F0 m (pc + 1) ls rest)) : W p l e R s m args below meth c H locs cells slots Q (F0 m pc ls (.long w :: .int 0 :: .ref oa :: rest)) :=
  m_last S.1 S.2.1 hE hM hS 50 0 cw_out 0 (by decide) (by decide) rfl (M' := cwM g ad (Mo g oa w) x) (by rw [outF_up]; exact cw_out) (fun j i h => cw_out2 j i h) hdg kk
end MOR
abbrev rm_X0_ground_ok : Room := { frames := 4, cells := 0, slots := 0, locals := 93 }
theorem k_X0_ground_ok (l : Launch) (g : GG) (A : Nat → Prop) (ad : Nat → Nat → Nat) (x : St) (oa : Nat) (v : Int64) (k n : Nat) (hk : k < 25) (hn : n < 5) (a2 a3 a4 a5 : Int32) (hw : cgrW a2 a3 a4 a5 = 1) : Met l yX0_ground (wsW_ yX0_ground cX0_ground 8 (some .int) [(0, 13, 16, 13), (0, 13, 20, 15)]) rm_X0_ground_ok (va_Pc [.ref (ad 0 0), .int (nI k), .int (nI n), .int a2, .int a3, .int a4, .int a5] (mPre g A (cwM g ad (Mo g oa v) x))) (pQi g A 0 (cwM g ad (Mo g oa v) (groF x (5 * k + n) a2 a3 a4 a5))) 0 0 A := by
  refine m_startW RX0 rfl (by decide) (Nat.le_of_ble_eq_true rfl) ?_
  intro p e s m args below meth c hcf hr hlk hnm hE hA htb H locs hM hS ls hl
  have hx := hcf.1
  have hb := hcf.2.1
  have hml := hcf.2.2.1
  have hown := hcf.2.2.2.1
  have hts := hcf.2.2.2.2
  have hl : lv_has ls 8 [(0, .ref (ad 0 0)), (1, .int (nI k)), (2, .int (nI n)), (3, .int a2), (4, .int a3), (5, .int a4), (6, .int a5)] := hl
  generalize hQ : MQ below (pQi g A 0 (cwM g ad (Mo g oa v) (groF x (5 * k + n) a2 a3 a4 a5))) args s 0 0 A = Q
  refine lv_aload_n hx hb dX0_ground_0 rfl (lv_at hl 0 rfl) ?_
  refine lv_iload_n hx hb dX0_ground_1 rfl (lv_at hl 1 rfl) ?_
  refine lv_iload_n hx hb dX0_ground_2 rfl (lv_at hl 2 rfl) ?_
  refine lv_iload_n hx hb dX0_ground_3 rfl (lv_at hl 3 rfl) ?_
  refine lv_iload hx hb dX0_ground_4 (lv_at hl 4 rfl) ?_
  refine lv_iload hx hb dX0_ground_6 (lv_at hl 5 rfl) ?_
  refine lv_iload hx hb dX0_ground_8 (lv_at hl 6 rfl) ?_
  refine m_cpv (m_rV (As := [.int (nI k), .int (nI n), .int a2, .int a3, .int a4, .int a5]) (rest := []) hcf (k_X1_ground_ok l g A ad (Mo g oa v) x k n hk hn a2 a3 a4 a5 hw) (cwV 6 hts (lw_V q408 q409 q410 q35 q411) rfl rfl rfl (by decide +kernel) ⟨Nat.le_of_ble_eq_true rfl, Nat.le_of_ble_eq_true rfl⟩) hE hA hM hS 0 0 cw_0 (ci := 0) rfl rfl hl.1 rfl (Nat.le_of_ble_eq_true rfl) dX0_ground_10 ⟨Nat.le_of_ble_eq_true rfl, Nat.le_of_ble_eq_true rfl⟩) hS (fun H locs hM hS => ?_)
  obtain ⟨x_1, ex_2⟩ : ∃ z : St, groF x (5 * k + n) a2 a3 a4 a5 = z := ⟨_, rfl⟩
  rw [ex_2] at hM
  refine lv_goto (tgt := 24) hx hb dX0_ground_13 (by decide) ?_
  refine lv_iconst (v := 0) hx hb dX0_ground_24 (by decide) ?_
  rw [← hQ]
  exact m_iret () hx hb hr rfl hlk (by subst_vars; exact hM) hS (by subst ex_2; first | rfl) (by first | decide | omega) (by first | decide | omega) dX0_ground_25

abbrev rm_X0_ground_n1 : Room := { frames := 10, cells := 1, slots := 6, locals := 173 }
theorem k_X0_ground_n1 (l : Launch) (g : GG) (A : Nat → Prop) (hlt : l.stackTraces = false) (ad : Nat → Nat → Nat) (x : St) (oa : Nat) (v : Int64) (a0 a1 a2 a3 a4 a5 : Int32) (h0 : inF a0 0 24 = 0) : Met l yX0_ground (wsW_ yX0_ground cX0_ground 8 (some .int) [(0, 13, 16, 13), (0, 13, 20, 15)]) rm_X0_ground_n1 (va_Pc [.ref (ad 0 0), .int a0, .int a1, .int a2, .int a3, .int a4, .int a5] (mPre g A (cwM g ad (Mo g oa v) x))) (pQi g A 1 (cwM g ad (Mo g oa v) x)) 1 6 A := by
  refine m_startW RX0 rfl (by decide) (Nat.le_of_ble_eq_true rfl) ?_
  intro p e s m args below meth c hcf hr hlk hnm hE hA htb H locs hM hS ls hl
  have hx := hcf.1
  have hb := hcf.2.1
  have hml := hcf.2.2.1
  have hown := hcf.2.2.2.1
  have hts := hcf.2.2.2.2
  have hl : lv_has ls 8 [(0, .ref (ad 0 0)), (1, .int a0), (2, .int a1), (3, .int a2), (4, .int a3), (5, .int a4), (6, .int a5)] := hl
  generalize hQ : MQ below (pQi g A 1 (cwM g ad (Mo g oa v) x)) args s 1 6 A = Q
  refine lv_aload_n hx hb dX0_ground_0 rfl (lv_at hl 0 rfl) ?_
  refine lv_iload_n hx hb dX0_ground_1 rfl (lv_at hl 1 rfl) ?_
  refine lv_iload_n hx hb dX0_ground_2 rfl (lv_at hl 2 rfl) ?_
  refine lv_iload_n hx hb dX0_ground_3 rfl (lv_at hl 3 rfl) ?_
  refine lv_iload hx hb dX0_ground_4 (lv_at hl 4 rfl) ?_
  refine lv_iload hx hb dX0_ground_6 (lv_at hl 5 rfl) ?_
  refine lv_iload hx hb dX0_ground_8 (lv_at hl 6 rfl) ?_
  refine m_xcatch (own := "WakegroundLaw") (name := "java/lang/IndexOutOfBoundsException") (m_xV (As := [.int a0, .int a1, .int a2, .int a3, .int a4, .int a5]) (rest := []) hcf (k_X1_ground_n1 l g A hlt ad (Mo g oa v) x a0 a1 a2 a3 a4 a5 h0) (cwV 6 hts (lw_V q408 q409 q410 q35 q411) rfl rfl rfl (by decide +kernel) ⟨Nat.le_of_ble_eq_true rfl, Nat.le_of_ble_eq_true rfl⟩) hE hA hM hS 0 0 cw_0 (ci := 0) rfl rfl hl.1 rfl (Nat.le_of_ble_eq_true rfl) dX0_ground_10 ⟨Nat.le_of_ble_eq_true rfl, Nat.le_of_ble_eq_true rfl⟩) hS hown [] ⟨0, 13, 16, 13⟩ [⟨0, 13, 20, 15⟩] (htb.trans rfl) (fun z hz => absurd hz List.not_mem_nil) rfl (by decide) (hts _ q374) (va_Nw.use rfl (hE.nw 3 rfl)) (fun q9 H locs hM hS => ?_)
  refine lv_astore (lv' := [(7, .ref q9), (0, .ref (ad 0 0)), (1, .int a0), (2, .int a1), (3, .int a2), (4, .int a3), (5, .int a4), (6, .int a5)]) hx hb dX0_ground_16 hl (by decide) rfl (fun ls hl => ?_)
  refine lv_iconst (v := 1) hx hb dX0_ground_18 (by decide) ?_
  rw [← hQ]
  exact m_iret () hx hb hr rfl hlk hM hS (by first | rfl) (by first | decide | omega) (by first | decide | omega) dX0_ground_19

abbrev rm_X0_ground_n2 : Room := { frames := 9, cells := 1, slots := 6, locals := 152 }
theorem k_X0_ground_n2 (l : Launch) (g : GG) (A : Nat → Prop) (hlt : l.stackTraces = false) (ad : Nat → Nat → Nat) (x : St) (oa : Nat) (v : Int64) (k : Nat) (hk : k < 25) (a1 a2 a3 a4 a5 : Int32) (h1 : inF a1 0 4 = 0) : Met l yX0_ground (wsW_ yX0_ground cX0_ground 8 (some .int) [(0, 13, 16, 13), (0, 13, 20, 15)]) rm_X0_ground_n2 (va_Pc [.ref (ad 0 0), .int (nI k), .int a1, .int a2, .int a3, .int a4, .int a5] (mPre g A (cwM g ad (Mo g oa v) x))) (pQi g A 1 (cwM g ad (Mo g oa v) x)) 1 6 A := by
  refine m_startW RX0 rfl (by decide) (Nat.le_of_ble_eq_true rfl) ?_
  intro p e s m args below meth c hcf hr hlk hnm hE hA htb H locs hM hS ls hl
  have hx := hcf.1
  have hb := hcf.2.1
  have hml := hcf.2.2.1
  have hown := hcf.2.2.2.1
  have hts := hcf.2.2.2.2
  have hl : lv_has ls 8 [(0, .ref (ad 0 0)), (1, .int (nI k)), (2, .int a1), (3, .int a2), (4, .int a3), (5, .int a4), (6, .int a5)] := hl
  generalize hQ : MQ below (pQi g A 1 (cwM g ad (Mo g oa v) x)) args s 1 6 A = Q
  refine lv_aload_n hx hb dX0_ground_0 rfl (lv_at hl 0 rfl) ?_
  refine lv_iload_n hx hb dX0_ground_1 rfl (lv_at hl 1 rfl) ?_
  refine lv_iload_n hx hb dX0_ground_2 rfl (lv_at hl 2 rfl) ?_
  refine lv_iload_n hx hb dX0_ground_3 rfl (lv_at hl 3 rfl) ?_
  refine lv_iload hx hb dX0_ground_4 (lv_at hl 4 rfl) ?_
  refine lv_iload hx hb dX0_ground_6 (lv_at hl 5 rfl) ?_
  refine lv_iload hx hb dX0_ground_8 (lv_at hl 6 rfl) ?_
  refine m_xcatch (own := "WakegroundLaw") (name := "java/lang/IndexOutOfBoundsException") (m_xV (As := [.int (nI k), .int a1, .int a2, .int a3, .int a4, .int a5]) (rest := []) hcf (k_X1_ground_n2 l g A hlt ad (Mo g oa v) x k hk a1 a2 a3 a4 a5 h1) (cwV 6 hts (lw_V q408 q409 q410 q35 q411) rfl rfl rfl (by decide +kernel) ⟨Nat.le_of_ble_eq_true rfl, Nat.le_of_ble_eq_true rfl⟩) hE hA hM hS 0 0 cw_0 (ci := 0) rfl rfl hl.1 rfl (Nat.le_of_ble_eq_true rfl) dX0_ground_10 ⟨Nat.le_of_ble_eq_true rfl, Nat.le_of_ble_eq_true rfl⟩) hS hown [] ⟨0, 13, 16, 13⟩ [⟨0, 13, 20, 15⟩] (htb.trans rfl) (fun z hz => absurd hz List.not_mem_nil) rfl (by decide) (hts _ q374) (va_Nw.use rfl (hE.nw 3 rfl)) (fun q9 H locs hM hS => ?_)
  refine lv_astore (lv' := [(7, .ref q9), (0, .ref (ad 0 0)), (1, .int (nI k)), (2, .int a1), (3, .int a2), (4, .int a3), (5, .int a4), (6, .int a5)]) hx hb dX0_ground_16 hl (by decide) rfl (fun ls hl => ?_)
  refine lv_iconst (v := 1) hx hb dX0_ground_18 (by decide) ?_
  rw [← hQ]
  exact m_iret () hx hb hr rfl hlk hM hS (by first | rfl) (by first | decide | omega) (by first | decide | omega) dX0_ground_19

abbrev rm_X0_ground_n3 : Room := { frames := 8, cells := 1, slots := 6, locals := 129 }
theorem k_X0_ground_n3 (l : Launch) (g : GG) (A : Nat → Prop) (hlt : l.stackTraces = false) (ad : Nat → Nat → Nat) (x : St) (oa : Nat) (v : Int64) (k n : Nat) (hk : k < 25) (hn : n < 5) (a2 a3 a4 a5 : Int32) (hw : cgrW a2 a3 a4 a5 = 0) : Met l yX0_ground (wsW_ yX0_ground cX0_ground 8 (some .int) [(0, 13, 16, 13), (0, 13, 20, 15)]) rm_X0_ground_n3 (va_Pc [.ref (ad 0 0), .int (nI k), .int (nI n), .int a2, .int a3, .int a4, .int a5] (mPre g A (cwM g ad (Mo g oa v) x))) (pQi g A 2 (cwM g ad (Mo g oa v) x)) 1 6 A := by
  refine m_startW RX0 rfl (by decide) (Nat.le_of_ble_eq_true rfl) ?_
  intro p e s m args below meth c hcf hr hlk hnm hE hA htb H locs hM hS ls hl
  have hx := hcf.1
  have hb := hcf.2.1
  have hml := hcf.2.2.1
  have hown := hcf.2.2.2.1
  have hts := hcf.2.2.2.2
  have hl : lv_has ls 8 [(0, .ref (ad 0 0)), (1, .int (nI k)), (2, .int (nI n)), (3, .int a2), (4, .int a3), (5, .int a4), (6, .int a5)] := hl
  generalize hQ : MQ below (pQi g A 2 (cwM g ad (Mo g oa v) x)) args s 1 6 A = Q
  refine lv_aload_n hx hb dX0_ground_0 rfl (lv_at hl 0 rfl) ?_
  refine lv_iload_n hx hb dX0_ground_1 rfl (lv_at hl 1 rfl) ?_
  refine lv_iload_n hx hb dX0_ground_2 rfl (lv_at hl 2 rfl) ?_
  refine lv_iload_n hx hb dX0_ground_3 rfl (lv_at hl 3 rfl) ?_
  refine lv_iload hx hb dX0_ground_4 (lv_at hl 4 rfl) ?_
  refine lv_iload hx hb dX0_ground_6 (lv_at hl 5 rfl) ?_
  refine lv_iload hx hb dX0_ground_8 (lv_at hl 6 rfl) ?_
  refine m_xcatch (own := "WakegroundLaw") (name := "java/lang/IllegalArgumentException") (m_xV (As := [.int (nI k), .int (nI n), .int a2, .int a3, .int a4, .int a5]) (rest := []) hcf (k_X1_ground_n3 l g A hlt ad (Mo g oa v) x k n hk hn a2 a3 a4 a5 hw) (cwV 6 hts (lw_V q408 q409 q410 q35 q411) rfl rfl rfl (by decide +kernel) ⟨Nat.le_of_ble_eq_true rfl, Nat.le_of_ble_eq_true rfl⟩) hE hA hM hS 0 0 cw_0 (ci := 0) rfl rfl hl.1 rfl (Nat.le_of_ble_eq_true rfl) dX0_ground_10 ⟨Nat.le_of_ble_eq_true rfl, Nat.le_of_ble_eq_true rfl⟩) hS hown [⟨0, 13, 16, 13⟩] ⟨0, 13, 20, 15⟩ [] (htb.trans rfl) (fun z hz => by rw [List.mem_singleton.mp hz]; exact Or.inr ⟨by decide, _, hts _ q374, hE.X.2.2.2.2.1⟩) rfl (by decide) (hts _ q407) (va_Nw.use rfl (hE.nw 4 rfl)) (fun q9 H locs hM hS => ?_)
  refine lv_astore (lv' := [(7, .ref q9), (0, .ref (ad 0 0)), (1, .int (nI k)), (2, .int (nI n)), (3, .int a2), (4, .int a3), (5, .int a4), (6, .int a5)]) hx hb dX0_ground_20 hl (by decide) rfl (fun ls hl => ?_)
  refine lv_iconst (v := 2) hx hb dX0_ground_22 (by decide) ?_
  rw [← hQ]
  exact m_iret () hx hb hr rfl hlk hM hS (by first | rfl) (by first | decide | omega) (by first | decide | omega) dX0_ground_23

abbrev rm_X0_moss_ok : Room := { frames := 3, cells := 0, slots := 0, locals := 67 }
theorem k_X0_moss_ok (l : Launch) (g : GG) (A : Nat → Prop) (ad : Nat → Nat → Nat) (x : St) (oa : Nat) (v : Int64) (k : Nat) (hk : k < 25) (a1 : Int32) (hw : inF a1 0 3 = 1) : Met l yX0_moss (wsW_ yX0_moss cX0_moss 5 (some .int) [(0, 10, 13, 13), (0, 10, 17, 15)]) rm_X0_moss_ok (va_Pc [.ref (ad 0 0), .int (nI k), .int a1, .ref oa] (mPre g A (cwM g ad (Mo g oa v) x))) (pQi g A 0 (cwM g ad (Mo g oa ((x.1 5 k).toInt64)) (mosF x k a1))) 0 0 A := by
  refine m_startW RX0 rfl (by decide) (Nat.le_of_ble_eq_true rfl) ?_
  intro p e s m args below meth c hcf hr hlk hnm hE hA htb H locs hM hS ls hl
  have hx := hcf.1
  have hb := hcf.2.1
  have hml := hcf.2.2.1
  have hown := hcf.2.2.2.1
  have hts := hcf.2.2.2.2
  have hl : lv_has ls 5 [(0, .ref (ad 0 0)), (1, .int (nI k)), (2, .int a1), (3, .ref oa)] := hl
  generalize hQ : MQ below (pQi g A 0 (cwM g ad (Mo g oa ((x.1 5 k).toInt64)) (mosF x k a1))) args s 0 0 A = Q
  refine lv_aload_n hx hb dX0_moss_0 rfl (lv_at hl 3 rfl) ?_
  refine lv_iconst (v := 0) hx hb dX0_moss_1 (by decide) ?_
  refine lv_aload_n hx hb dX0_moss_2 rfl (lv_at hl 0 rfl) ?_
  refine lv_iload_n hx hb dX0_moss_3 rfl (lv_at hl 1 rfl) ?_
  refine lv_iload_n hx hb dX0_moss_4 rfl (lv_at hl 2 rfl) ?_
  refine m_cpi (m_rV (As := [.int (nI k), .int a1]) (rest := [.int 0, .ref oa]) hcf (k_X1_moss_ok l g A ad (Mo g oa v) x k hk a1 hw) (cwV 2 hts (lw_V q461 q462 q463 q35 q464) rfl rfl rfl (by decide +kernel) ⟨Nat.le_of_ble_eq_true rfl, Nat.le_of_ble_eq_true rfl⟩) hE hA hM hS 0 0 cw_0 (ci := 0) rfl rfl hl.1 rfl (Nat.le_of_ble_eq_true rfl) dX0_moss_5 ⟨Nat.le_of_ble_eq_true rfl, Nat.le_of_ble_eq_true rfl⟩) hS (fun H locs hM hS => ?_)
  obtain ⟨x_1, ex_2⟩ : ∃ z : St, mosF x k a1 = z := ⟨_, rfl⟩
  rw [ex_2] at hM
  refine lv_i2l hx hb dX0_moss_8 rfl ?_
  refine mo_st (w := (x.1 5 k).toInt64) hcf hE hM hS dX0_moss_9 (fun H locs hM hS => ?_)
  refine lv_goto (tgt := 21) hx hb dX0_moss_10 (by decide) ?_
  refine lv_iconst (v := 0) hx hb dX0_moss_21 (by decide) ?_
  rw [← hQ]
  exact m_iret () hx hb hr rfl hlk (by subst_vars; exact hM) hS (by subst ex_2; first | rfl) (by first | decide | omega) (by first | decide | omega) dX0_moss_22

abbrev rm_X0_moss_n1 : Room := { frames := 9, cells := 1, slots := 6, locals := 147 }
theorem k_X0_moss_n1 (l : Launch) (g : GG) (A : Nat → Prop) (hlt : l.stackTraces = false) (ad : Nat → Nat → Nat) (x : St) (oa : Nat) (v : Int64) (a0 a1 : Int32) (h0 : inF a0 0 24 = 0) : Met l yX0_moss (wsW_ yX0_moss cX0_moss 5 (some .int) [(0, 10, 13, 13), (0, 10, 17, 15)]) rm_X0_moss_n1 (va_Pc [.ref (ad 0 0), .int a0, .int a1, .ref oa] (mPre g A (cwM g ad (Mo g oa v) x))) (pQi g A 1 (cwM g ad (Mo g oa v) x)) 1 6 A := by
  refine m_startW RX0 rfl (by decide) (Nat.le_of_ble_eq_true rfl) ?_
  intro p e s m args below meth c hcf hr hlk hnm hE hA htb H locs hM hS ls hl
  have hx := hcf.1
  have hb := hcf.2.1
  have hml := hcf.2.2.1
  have hown := hcf.2.2.2.1
  have hts := hcf.2.2.2.2
  have hl : lv_has ls 5 [(0, .ref (ad 0 0)), (1, .int a0), (2, .int a1), (3, .ref oa)] := hl
  generalize hQ : MQ below (pQi g A 1 (cwM g ad (Mo g oa v) x)) args s 1 6 A = Q
  refine lv_aload_n hx hb dX0_moss_0 rfl (lv_at hl 3 rfl) ?_
  refine lv_iconst (v := 0) hx hb dX0_moss_1 (by decide) ?_
  refine lv_aload_n hx hb dX0_moss_2 rfl (lv_at hl 0 rfl) ?_
  refine lv_iload_n hx hb dX0_moss_3 rfl (lv_at hl 1 rfl) ?_
  refine lv_iload_n hx hb dX0_moss_4 rfl (lv_at hl 2 rfl) ?_
  refine m_xcatch (own := "WakegroundLaw") (name := "java/lang/IndexOutOfBoundsException") (m_xV (As := [.int a0, .int a1]) (rest := [.int 0, .ref oa]) hcf (k_X1_moss_n1 l g A hlt ad (Mo g oa v) x a0 a1 h0) (cwV 2 hts (lw_V q461 q462 q463 q35 q464) rfl rfl rfl (by decide +kernel) ⟨Nat.le_of_ble_eq_true rfl, Nat.le_of_ble_eq_true rfl⟩) hE hA hM hS 0 0 cw_0 (ci := 0) rfl rfl hl.1 rfl (Nat.le_of_ble_eq_true rfl) dX0_moss_5 ⟨Nat.le_of_ble_eq_true rfl, Nat.le_of_ble_eq_true rfl⟩) hS hown [] ⟨0, 10, 13, 13⟩ [⟨0, 10, 17, 15⟩] (htb.trans rfl) (fun z hz => absurd hz List.not_mem_nil) rfl (by decide) (hts _ q374) (va_Nw.use rfl (hE.nw 3 rfl)) (fun q9 H locs hM hS => ?_)
  refine lv_astore (lv' := [(4, .ref q9), (0, .ref (ad 0 0)), (1, .int a0), (2, .int a1), (3, .ref oa)]) hx hb dX0_moss_13 hl (by decide) rfl (fun ls hl => ?_)
  refine lv_iconst (v := 1) hx hb dX0_moss_15 (by decide) ?_
  rw [← hQ]
  exact m_iret () hx hb hr rfl hlk hM hS (by first | rfl) (by first | decide | omega) (by first | decide | omega) dX0_moss_16

abbrev rm_X0_moss_n2 : Room := { frames := 8, cells := 1, slots := 6, locals := 126 }
theorem k_X0_moss_n2 (l : Launch) (g : GG) (A : Nat → Prop) (hlt : l.stackTraces = false) (ad : Nat → Nat → Nat) (x : St) (oa : Nat) (v : Int64) (k : Nat) (hk : k < 25) (a1 : Int32) (hw : inF a1 0 3 = 0) : Met l yX0_moss (wsW_ yX0_moss cX0_moss 5 (some .int) [(0, 10, 13, 13), (0, 10, 17, 15)]) rm_X0_moss_n2 (va_Pc [.ref (ad 0 0), .int (nI k), .int a1, .ref oa] (mPre g A (cwM g ad (Mo g oa v) x))) (pQi g A 2 (cwM g ad (Mo g oa v) x)) 1 6 A := by
  refine m_startW RX0 rfl (by decide) (Nat.le_of_ble_eq_true rfl) ?_
  intro p e s m args below meth c hcf hr hlk hnm hE hA htb H locs hM hS ls hl
  have hx := hcf.1
  have hb := hcf.2.1
  have hml := hcf.2.2.1
  have hown := hcf.2.2.2.1
  have hts := hcf.2.2.2.2
  have hl : lv_has ls 5 [(0, .ref (ad 0 0)), (1, .int (nI k)), (2, .int a1), (3, .ref oa)] := hl
  generalize hQ : MQ below (pQi g A 2 (cwM g ad (Mo g oa v) x)) args s 1 6 A = Q
  refine lv_aload_n hx hb dX0_moss_0 rfl (lv_at hl 3 rfl) ?_
  refine lv_iconst (v := 0) hx hb dX0_moss_1 (by decide) ?_
  refine lv_aload_n hx hb dX0_moss_2 rfl (lv_at hl 0 rfl) ?_
  refine lv_iload_n hx hb dX0_moss_3 rfl (lv_at hl 1 rfl) ?_
  refine lv_iload_n hx hb dX0_moss_4 rfl (lv_at hl 2 rfl) ?_
  refine m_xcatch (own := "WakegroundLaw") (name := "java/lang/IllegalArgumentException") (m_xV (As := [.int (nI k), .int a1]) (rest := [.int 0, .ref oa]) hcf (k_X1_moss_n2 l g A hlt ad (Mo g oa v) x k hk a1 hw) (cwV 2 hts (lw_V q461 q462 q463 q35 q464) rfl rfl rfl (by decide +kernel) ⟨Nat.le_of_ble_eq_true rfl, Nat.le_of_ble_eq_true rfl⟩) hE hA hM hS 0 0 cw_0 (ci := 0) rfl rfl hl.1 rfl (Nat.le_of_ble_eq_true rfl) dX0_moss_5 ⟨Nat.le_of_ble_eq_true rfl, Nat.le_of_ble_eq_true rfl⟩) hS hown [⟨0, 10, 13, 13⟩] ⟨0, 10, 17, 15⟩ [] (htb.trans rfl) (fun z hz => by rw [List.mem_singleton.mp hz]; exact Or.inr ⟨by decide, _, hts _ q374, hE.X.2.2.2.2.1⟩) rfl (by decide) (hts _ q407) (va_Nw.use rfl (hE.nw 4 rfl)) (fun q9 H locs hM hS => ?_)
  refine lv_astore (lv' := [(4, .ref q9), (0, .ref (ad 0 0)), (1, .int (nI k)), (2, .int a1), (3, .ref oa)]) hx hb dX0_moss_17 hl (by decide) rfl (fun ls hl => ?_)
  refine lv_iconst (v := 2) hx hb dX0_moss_19 (by decide) ?_
  rw [← hQ]
  exact m_iret () hx hb hr rfl hlk hM hS (by first | rfl) (by first | decide | omega) (by first | decide | omega) dX0_moss_20

abbrev rm_X0_pass_ok : Room := { frames := 7, cells := 600, slots := 1200, locals := 157 }
theorem k_X0_pass_ok (l : Launch) (g : GG) (A : Nat → Prop) (ad : Nat → Nat → Nat) (x : St) (oa : Nat) (v : Int64) (n : Nat) (a1 a2 : Int32) (hg : cGood x) (hf : okN a2 10) (hn : n ≤ 24) (hm : nt x 1 0 + n ≤ 600) (hw : cpsW (nI n) a1 a2 = 1) (hv : cpsV x (nI n) = 1) : Met l yX0_pass (wsW_ yX0_pass cX0_pass 6 (some .int) [(0, 12, 15, 15), (0, 12, 19, 25)]) rm_X0_pass_ok (va_Pc [.ref (ad 0 0), .int (nI n), .int a1, .int a2, .ref oa] (mPre g A (cwM g ad (Mo g oa v) x))) (pQi g A 0 (cwM g ad (Mo g oa (((psL x a1 a2 n).1 1 0).toInt64)) (psL x a1 a2 n))) 600 1200 A := by
  refine m_startW RX0 rfl (by decide) (Nat.le_of_ble_eq_true rfl) ?_
  intro p e s m args below meth c hcf hr hlk hnm hE hA htb H locs hM hS ls hl
  have hx := hcf.1
  have hb := hcf.2.1
  have hml := hcf.2.2.1
  have hown := hcf.2.2.2.1
  have hts := hcf.2.2.2.2
  have hl : lv_has ls 6 [(0, .ref (ad 0 0)), (1, .int (nI n)), (2, .int a1), (3, .int a2), (4, .ref oa)] := hl
  generalize hQ : MQ below (pQi g A 0 (cwM g ad (Mo g oa (((psL x a1 a2 n).1 1 0).toInt64)) (psL x a1 a2 n))) args s 600 1200 A = Q
  refine lv_aload hx hb dX0_pass_0 (lv_at hl 4 rfl) ?_
  refine lv_iconst (v := 0) hx hb dX0_pass_2 (by decide) ?_
  refine lv_aload_n hx hb dX0_pass_3 rfl (lv_at hl 0 rfl) ?_
  refine lv_iload_n hx hb dX0_pass_4 rfl (lv_at hl 1 rfl) ?_
  refine lv_iload_n hx hb dX0_pass_5 rfl (lv_at hl 2 rfl) ?_
  refine lv_iload_n hx hb dX0_pass_6 rfl (lv_at hl 3 rfl) ?_
  refine m_cpi (m_rV (As := [.int (nI n), .int a1, .int a2]) (rest := [.int 0, .ref oa]) hcf (k_X1_pass_ok l g A ad (Mo g oa v) x n a1 a2 hg hf hn hm (Mo_n _ _ _ (by decide)) hw hv) (cwV 3 hts (lw_V q469 q470 q471 q35 q472) rfl rfl rfl (by decide +kernel) ⟨Nat.le_of_ble_eq_true rfl, Nat.le_of_ble_eq_true rfl⟩) hE hA hM hS 0 0 cw_0 (ci := 0) rfl rfl hl.1 rfl (Nat.le_of_ble_eq_true rfl) dX0_pass_7 ⟨Nat.le_of_ble_eq_true rfl, Nat.le_of_ble_eq_true rfl⟩) hS (fun H locs hM hS => ?_)
  obtain ⟨x_1, ex_2⟩ : ∃ z : St, psL x a1 a2 n = z := ⟨_, rfl⟩
  rw [ex_2] at hM
  refine lv_i2l hx hb dX0_pass_10 rfl ?_
  refine mo_st (w := ((psL x a1 a2 n).1 1 0).toInt64) hcf hE hM hS dX0_pass_11 (fun H locs hM hS => ?_)
  refine lv_goto (tgt := 23) hx hb dX0_pass_12 (by decide) ?_
  refine lv_iconst (v := 0) hx hb dX0_pass_23 (by decide) ?_
  rw [← hQ]
  exact m_iret () hx hb hr rfl hlk (by subst_vars; exact hM) hS (by subst ex_2; first | rfl) (by first | decide | omega) (by first | decide | omega) dX0_pass_24

abbrev rm_X0_pass_n1 : Room := { frames := 8, cells := 1, slots := 6, locals := 126 }
theorem k_X0_pass_n1 (l : Launch) (g : GG) (A : Nat → Prop) (hlt : l.stackTraces = false) (ad : Nat → Nat → Nat) (x : St) (oa : Nat) (v : Int64) (a0 a1 a2 : Int32) (hw : cpsW a0 a1 a2 = 0) : Met l yX0_pass (wsW_ yX0_pass cX0_pass 6 (some .int) [(0, 12, 15, 15), (0, 12, 19, 25)]) rm_X0_pass_n1 (va_Pc [.ref (ad 0 0), .int a0, .int a1, .int a2, .ref oa] (mPre g A (cwM g ad (Mo g oa v) x))) (pQi g A 1 (cwM g ad (Mo g oa v) x)) 1 6 A := by
  refine m_startW RX0 rfl (by decide) (Nat.le_of_ble_eq_true rfl) ?_
  intro p e s m args below meth c hcf hr hlk hnm hE hA htb H locs hM hS ls hl
  have hx := hcf.1
  have hb := hcf.2.1
  have hml := hcf.2.2.1
  have hown := hcf.2.2.2.1
  have hts := hcf.2.2.2.2
  have hl : lv_has ls 6 [(0, .ref (ad 0 0)), (1, .int a0), (2, .int a1), (3, .int a2), (4, .ref oa)] := hl
  generalize hQ : MQ below (pQi g A 1 (cwM g ad (Mo g oa v) x)) args s 1 6 A = Q
  refine lv_aload hx hb dX0_pass_0 (lv_at hl 4 rfl) ?_
  refine lv_iconst (v := 0) hx hb dX0_pass_2 (by decide) ?_
  refine lv_aload_n hx hb dX0_pass_3 rfl (lv_at hl 0 rfl) ?_
  refine lv_iload_n hx hb dX0_pass_4 rfl (lv_at hl 1 rfl) ?_
  refine lv_iload_n hx hb dX0_pass_5 rfl (lv_at hl 2 rfl) ?_
  refine lv_iload_n hx hb dX0_pass_6 rfl (lv_at hl 3 rfl) ?_
  refine m_xcatch (own := "WakegroundLaw") (name := "java/lang/IllegalArgumentException") (m_xV (As := [.int a0, .int a1, .int a2]) (rest := [.int 0, .ref oa]) hcf (k_X1_pass_n1 l g A hlt ad (Mo g oa v) x a0 a1 a2 hw) (cwV 3 hts (lw_V q469 q470 q471 q35 q472) rfl rfl rfl (by decide +kernel) ⟨Nat.le_of_ble_eq_true rfl, Nat.le_of_ble_eq_true rfl⟩) hE hA hM hS 0 0 cw_0 (ci := 0) rfl rfl hl.1 rfl (Nat.le_of_ble_eq_true rfl) dX0_pass_7 ⟨Nat.le_of_ble_eq_true rfl, Nat.le_of_ble_eq_true rfl⟩) hS hown [] ⟨0, 12, 15, 15⟩ [⟨0, 12, 19, 25⟩] (htb.trans rfl) (fun z hz => absurd hz List.not_mem_nil) rfl (by decide) (hts _ q407) (va_Nw.use rfl (hE.nw 4 rfl)) (fun q9 H locs hM hS => ?_)
  refine lv_astore (lv' := [(5, .ref q9), (0, .ref (ad 0 0)), (1, .int a0), (2, .int a1), (3, .int a2), (4, .ref oa)]) hx hb dX0_pass_15 hl (by decide) rfl (fun ls hl => ?_)
  refine lv_iconst (v := 1) hx hb dX0_pass_17 (by decide) ?_
  rw [← hQ]
  exact m_iret () hx hb hr rfl hlk hM hS (by first | rfl) (by first | decide | omega) (by first | decide | omega) dX0_pass_18

abbrev rm_X0_pass_n2 : Room := { frames := 8, cells := 1, slots := 6, locals := 126 }
theorem k_X0_pass_n2 (l : Launch) (g : GG) (A : Nat → Prop) (hlt : l.stackTraces = false) (ad : Nat → Nat → Nat) (x : St) (oa : Nat) (v : Int64) (a0 a1 a2 : Int32) (hw : cpsW a0 a1 a2 = 1) (hv : cpsV x a0 = 0) : Met l yX0_pass (wsW_ yX0_pass cX0_pass 6 (some .int) [(0, 12, 15, 15), (0, 12, 19, 25)]) rm_X0_pass_n2 (va_Pc [.ref (ad 0 0), .int a0, .int a1, .int a2, .ref oa] (mPre g A (cwM g ad (Mo g oa v) x))) (pQi g A 2 (cwM g ad (Mo g oa v) x)) 1 6 A := by
  refine m_startW RX0 rfl (by decide) (Nat.le_of_ble_eq_true rfl) ?_
  intro p e s m args below meth c hcf hr hlk hnm hE hA htb H locs hM hS ls hl
  have hx := hcf.1
  have hb := hcf.2.1
  have hml := hcf.2.2.1
  have hown := hcf.2.2.2.1
  have hts := hcf.2.2.2.2
  have hl : lv_has ls 6 [(0, .ref (ad 0 0)), (1, .int a0), (2, .int a1), (3, .int a2), (4, .ref oa)] := hl
  generalize hQ : MQ below (pQi g A 2 (cwM g ad (Mo g oa v) x)) args s 1 6 A = Q
  refine lv_aload hx hb dX0_pass_0 (lv_at hl 4 rfl) ?_
  refine lv_iconst (v := 0) hx hb dX0_pass_2 (by decide) ?_
  refine lv_aload_n hx hb dX0_pass_3 rfl (lv_at hl 0 rfl) ?_
  refine lv_iload_n hx hb dX0_pass_4 rfl (lv_at hl 1 rfl) ?_
  refine lv_iload_n hx hb dX0_pass_5 rfl (lv_at hl 2 rfl) ?_
  refine lv_iload_n hx hb dX0_pass_6 rfl (lv_at hl 3 rfl) ?_
  refine m_xcatch (own := "WakegroundLaw") (name := "java/lang/IllegalStateException") (m_xV (As := [.int a0, .int a1, .int a2]) (rest := [.int 0, .ref oa]) hcf (k_X1_pass_n2 l g A hlt ad (Mo g oa v) x a0 a1 a2 hw hv) (cwV 3 hts (lw_V q469 q470 q471 q35 q472) rfl rfl rfl (by decide +kernel) ⟨Nat.le_of_ble_eq_true rfl, Nat.le_of_ble_eq_true rfl⟩) hE hA hM hS 0 0 cw_0 (ci := 0) rfl rfl hl.1 rfl (Nat.le_of_ble_eq_true rfl) dX0_pass_7 ⟨Nat.le_of_ble_eq_true rfl, Nat.le_of_ble_eq_true rfl⟩) hS hown [⟨0, 12, 15, 15⟩] ⟨0, 12, 19, 25⟩ [] (htb.trans rfl) (fun z hz => by rw [List.mem_singleton.mp hz]; exact Or.inr ⟨by decide, _, hts _ q407, hE.X.2.2.2.2.2.2.1⟩) rfl (by decide) (hts _ q468) (va_Nw.use rfl (hE.nw 5 rfl)) (fun q9 H locs hM hS => ?_)
  refine lv_astore (lv' := [(5, .ref q9), (0, .ref (ad 0 0)), (1, .int a0), (2, .int a1), (3, .int a2), (4, .ref oa)]) hx hb dX0_pass_19 hl (by decide) rfl (fun ls hl => ?_)
  refine lv_iconst (v := 2) hx hb dX0_pass_21 (by decide) ?_
  rw [← hQ]
  exact m_iret () hx hb hr rfl hlk hM hS (by first | rfl) (by first | decide | omega) (by first | decide | omega) dX0_pass_22

abbrev rm_X0_fire_ok : Room := { frames := 3, cells := 0, slots := 0, locals := 66 }
theorem k_X0_fire_ok (l : Launch) (g : GG) (A : Nat → Prop) (ad : Nat → Nat → Nat) (x : St) (oa : Nat) (v : Int64) (k : Nat) (hk : k < 25) (hw : cfiW x k = 1) : Met l yX0_fire (wsW_ yX0_fire cX0_fire 4 (some .int) [(0, 9, 12, 13), (0, 9, 15, 25)]) rm_X0_fire_ok (va_Pc [.ref (ad 0 0), .int (nI k), .ref oa] (mPre g A (cwM g ad (Mo g oa v) x))) (pQi g A 0 (cwM g ad (Mo g oa ((cfiG x k).toInt64)) (cfiF x k))) 0 0 A := by
  refine m_startW RX0 rfl (by decide) (Nat.le_of_ble_eq_true rfl) ?_
  intro p e s m args below meth c hcf hr hlk hnm hE hA htb H locs hM hS ls hl
  have hx := hcf.1
  have hb := hcf.2.1
  have hml := hcf.2.2.1
  have hown := hcf.2.2.2.1
  have hts := hcf.2.2.2.2
  have hl : lv_has ls 4 [(0, .ref (ad 0 0)), (1, .int (nI k)), (2, .ref oa)] := hl
  generalize hQ : MQ below (pQi g A 0 (cwM g ad (Mo g oa ((cfiG x k).toInt64)) (cfiF x k))) args s 0 0 A = Q
  refine lv_aload_n hx hb dX0_fire_0 rfl (lv_at hl 2 rfl) ?_
  refine lv_iconst (v := 0) hx hb dX0_fire_1 (by decide) ?_
  refine lv_aload_n hx hb dX0_fire_2 rfl (lv_at hl 0 rfl) ?_
  refine lv_iload_n hx hb dX0_fire_3 rfl (lv_at hl 1 rfl) ?_
  refine m_cpi (m_rV (As := [.int (nI k)]) (rest := [.int 0, .ref oa]) hcf (k_X1_fire_ok l g A ad (Mo g oa v) x k hk hw) (cwV 1 hts (lw_V q639 q640 q641 q35 q642) rfl rfl rfl (by decide +kernel) ⟨Nat.le_of_ble_eq_true rfl, Nat.le_of_ble_eq_true rfl⟩) hE hA hM hS 0 0 cw_0 (ci := 0) rfl rfl hl.1 rfl (Nat.le_of_ble_eq_true rfl) dX0_fire_4 ⟨Nat.le_of_ble_eq_true rfl, Nat.le_of_ble_eq_true rfl⟩) hS (fun H locs hM hS => ?_)
  obtain ⟨x_1, ex_2⟩ : ∃ z : St, cfiF x k = z := ⟨_, rfl⟩
  rw [ex_2] at hM
  refine lv_i2l hx hb dX0_fire_7 rfl ?_
  refine mo_st (w := (cfiG x k).toInt64) hcf hE hM hS dX0_fire_8 (fun H locs hM hS => ?_)
  refine lv_goto (tgt := 18) hx hb dX0_fire_9 (by decide) ?_
  refine lv_iconst (v := 0) hx hb dX0_fire_18 (by decide) ?_
  rw [← hQ]
  exact m_iret () hx hb hr rfl hlk (by subst_vars; exact hM) hS (by subst ex_2; first | rfl) (by first | decide | omega) (by first | decide | omega) dX0_fire_19

abbrev rm_X0_fire_n1 : Room := { frames := 9, cells := 1, slots := 6, locals := 146 }
theorem k_X0_fire_n1 (l : Launch) (g : GG) (A : Nat → Prop) (hlt : l.stackTraces = false) (ad : Nat → Nat → Nat) (x : St) (oa : Nat) (v : Int64) (a0 : Int32) (h0 : inF a0 0 24 = 0) : Met l yX0_fire (wsW_ yX0_fire cX0_fire 4 (some .int) [(0, 9, 12, 13), (0, 9, 15, 25)]) rm_X0_fire_n1 (va_Pc [.ref (ad 0 0), .int a0, .ref oa] (mPre g A (cwM g ad (Mo g oa v) x))) (pQi g A 1 (cwM g ad (Mo g oa v) x)) 1 6 A := by
  refine m_startW RX0 rfl (by decide) (Nat.le_of_ble_eq_true rfl) ?_
  intro p e s m args below meth c hcf hr hlk hnm hE hA htb H locs hM hS ls hl
  have hx := hcf.1
  have hb := hcf.2.1
  have hml := hcf.2.2.1
  have hown := hcf.2.2.2.1
  have hts := hcf.2.2.2.2
  have hl : lv_has ls 4 [(0, .ref (ad 0 0)), (1, .int a0), (2, .ref oa)] := hl
  generalize hQ : MQ below (pQi g A 1 (cwM g ad (Mo g oa v) x)) args s 1 6 A = Q
  refine lv_aload_n hx hb dX0_fire_0 rfl (lv_at hl 2 rfl) ?_
  refine lv_iconst (v := 0) hx hb dX0_fire_1 (by decide) ?_
  refine lv_aload_n hx hb dX0_fire_2 rfl (lv_at hl 0 rfl) ?_
  refine lv_iload_n hx hb dX0_fire_3 rfl (lv_at hl 1 rfl) ?_
  refine m_xcatch (own := "WakegroundLaw") (name := "java/lang/IndexOutOfBoundsException") (m_xV (As := [.int a0]) (rest := [.int 0, .ref oa]) hcf (k_X1_fire_n1 l g A hlt ad (Mo g oa v) x a0 h0) (cwV 1 hts (lw_V q639 q640 q641 q35 q642) rfl rfl rfl (by decide +kernel) ⟨Nat.le_of_ble_eq_true rfl, Nat.le_of_ble_eq_true rfl⟩) hE hA hM hS 0 0 cw_0 (ci := 0) rfl rfl hl.1 rfl (Nat.le_of_ble_eq_true rfl) dX0_fire_4 ⟨Nat.le_of_ble_eq_true rfl, Nat.le_of_ble_eq_true rfl⟩) hS hown [] ⟨0, 9, 12, 13⟩ [⟨0, 9, 15, 25⟩] (htb.trans rfl) (fun z hz => absurd hz List.not_mem_nil) rfl (by decide) (hts _ q374) (va_Nw.use rfl (hE.nw 3 rfl)) (fun q9 H locs hM hS => ?_)
  refine lv_astore_n (lv' := [(3, .ref q9), (0, .ref (ad 0 0)), (1, .int a0), (2, .ref oa)]) hx hb dX0_fire_12 rfl hl (by decide) rfl (fun ls hl => ?_)
  refine lv_iconst (v := 1) hx hb dX0_fire_13 (by decide) ?_
  rw [← hQ]
  exact m_iret () hx hb hr rfl hlk hM hS (by first | rfl) (by first | decide | omega) (by first | decide | omega) dX0_fire_14

abbrev rm_X0_fire_n2 : Room := { frames := 8, cells := 1, slots := 6, locals := 125 }
theorem k_X0_fire_n2 (l : Launch) (g : GG) (A : Nat → Prop) (hlt : l.stackTraces = false) (ad : Nat → Nat → Nat) (x : St) (oa : Nat) (v : Int64) (k : Nat) (hk : k < 25) (hw : cfiW x k = 0) : Met l yX0_fire (wsW_ yX0_fire cX0_fire 4 (some .int) [(0, 9, 12, 13), (0, 9, 15, 25)]) rm_X0_fire_n2 (va_Pc [.ref (ad 0 0), .int (nI k), .ref oa] (mPre g A (cwM g ad (Mo g oa v) x))) (pQi g A 2 (cwM g ad (Mo g oa v) x)) 1 6 A := by
  refine m_startW RX0 rfl (by decide) (Nat.le_of_ble_eq_true rfl) ?_
  intro p e s m args below meth c hcf hr hlk hnm hE hA htb H locs hM hS ls hl
  have hx := hcf.1
  have hb := hcf.2.1
  have hml := hcf.2.2.1
  have hown := hcf.2.2.2.1
  have hts := hcf.2.2.2.2
  have hl : lv_has ls 4 [(0, .ref (ad 0 0)), (1, .int (nI k)), (2, .ref oa)] := hl
  generalize hQ : MQ below (pQi g A 2 (cwM g ad (Mo g oa v) x)) args s 1 6 A = Q
  refine lv_aload_n hx hb dX0_fire_0 rfl (lv_at hl 2 rfl) ?_
  refine lv_iconst (v := 0) hx hb dX0_fire_1 (by decide) ?_
  refine lv_aload_n hx hb dX0_fire_2 rfl (lv_at hl 0 rfl) ?_
  refine lv_iload_n hx hb dX0_fire_3 rfl (lv_at hl 1 rfl) ?_
  refine m_xcatch (own := "WakegroundLaw") (name := "java/lang/IllegalStateException") (m_xV (As := [.int (nI k)]) (rest := [.int 0, .ref oa]) hcf (k_X1_fire_n2 l g A hlt ad (Mo g oa v) x k hk hw) (cwV 1 hts (lw_V q639 q640 q641 q35 q642) rfl rfl rfl (by decide +kernel) ⟨Nat.le_of_ble_eq_true rfl, Nat.le_of_ble_eq_true rfl⟩) hE hA hM hS 0 0 cw_0 (ci := 0) rfl rfl hl.1 rfl (Nat.le_of_ble_eq_true rfl) dX0_fire_4 ⟨Nat.le_of_ble_eq_true rfl, Nat.le_of_ble_eq_true rfl⟩) hS hown [⟨0, 9, 12, 13⟩] ⟨0, 9, 15, 25⟩ [] (htb.trans rfl) (fun z hz => by rw [List.mem_singleton.mp hz]; exact Or.inr ⟨by decide, _, hts _ q374, hE.X.2.2.2.2.2.1⟩) rfl (by decide) (hts _ q468) (va_Nw.use rfl (hE.nw 5 rfl)) (fun q9 H locs hM hS => ?_)
  refine lv_astore_n (lv' := [(3, .ref q9), (0, .ref (ad 0 0)), (1, .int (nI k)), (2, .ref oa)]) hx hb dX0_fire_15 rfl hl (by decide) rfl (fun ls hl => ?_)
  refine lv_iconst (v := 2) hx hb dX0_fire_16 (by decide) ?_
  rw [← hQ]
  exact m_iret () hx hb hr rfl hlk hM hS (by first | rfl) (by first | decide | omega) (by first | decide | omega) dX0_fire_17

abbrev rm_X0_breach_ok : Room := { frames := 6, cells := 25, slots := 50, locals := 132 }
theorem k_X0_breach_ok (l : Launch) (g : GG) (A : Nat → Prop) (ad : Nat → Nat → Nat) (x : St) (oa : Nat) (v : Int64) (k : Nat) (hk : k < 25) (hw : cbrW x k = 1) : Met l yX0_breach (wsW_ yX0_breach cX0_breach 4 (some .int) [(0, 9, 12, 13), (0, 9, 15, 25)]) rm_X0_breach_ok (va_Pc [.ref (ad 0 0), .int (nI k), .ref oa] (mPre g A (cwM g ad (Mo g oa v) x))) (pQi g A 0 (cwM g ad (Mo g oa ((cbrQ x k).2.toInt64)) (cbrF x k))) 25 50 A := by
  refine m_startW RX0 rfl (by decide) (Nat.le_of_ble_eq_true rfl) ?_
  intro p e s m args below meth c hcf hr hlk hnm hE hA htb H locs hM hS ls hl
  have hx := hcf.1
  have hb := hcf.2.1
  have hml := hcf.2.2.1
  have hown := hcf.2.2.2.1
  have hts := hcf.2.2.2.2
  have hl : lv_has ls 4 [(0, .ref (ad 0 0)), (1, .int (nI k)), (2, .ref oa)] := hl
  generalize hQ : MQ below (pQi g A 0 (cwM g ad (Mo g oa ((cbrQ x k).2.toInt64)) (cbrF x k))) args s 25 50 A = Q
  refine lv_aload_n hx hb dX0_breach_0 rfl (lv_at hl 2 rfl) ?_
  refine lv_iconst (v := 0) hx hb dX0_breach_1 (by decide) ?_
  refine lv_aload_n hx hb dX0_breach_2 rfl (lv_at hl 0 rfl) ?_
  refine lv_iload_n hx hb dX0_breach_3 rfl (lv_at hl 1 rfl) ?_
  refine m_cpi (m_rV (As := [.int (nI k)]) (rest := [.int 0, .ref oa]) hcf (k_X1_breach_ok l g A ad (Mo g oa v) x k hk hw (Mo_n _ _ _ (by decide))) (cwV 1 hts (lw_V q646 q647 q648 q35 q649) rfl rfl rfl (by decide +kernel) ⟨Nat.le_of_ble_eq_true rfl, Nat.le_of_ble_eq_true rfl⟩) hE hA hM hS 0 0 cw_0 (ci := 0) rfl rfl hl.1 rfl (Nat.le_of_ble_eq_true rfl) dX0_breach_4 ⟨Nat.le_of_ble_eq_true rfl, Nat.le_of_ble_eq_true rfl⟩) hS (fun H locs hM hS => ?_)
  obtain ⟨x_1, ex_2⟩ : ∃ z : St, cbrF x k = z := ⟨_, rfl⟩
  rw [ex_2] at hM
  refine lv_i2l hx hb dX0_breach_7 rfl ?_
  refine mo_st (w := ((cbrQ x k).2).toInt64) hcf hE hM hS dX0_breach_8 (fun H locs hM hS => ?_)
  refine lv_goto (tgt := 18) hx hb dX0_breach_9 (by decide) ?_
  refine lv_iconst (v := 0) hx hb dX0_breach_18 (by decide) ?_
  rw [← hQ]
  exact m_iret () hx hb hr rfl hlk (by rw [← ex_2] at hM; exact hM) hS (by subst ex_2; first | rfl) (by first | decide | omega) (by first | decide | omega) dX0_breach_19

abbrev rm_X0_breach_n1 : Room := { frames := 9, cells := 1, slots := 6, locals := 147 }
theorem k_X0_breach_n1 (l : Launch) (g : GG) (A : Nat → Prop) (hlt : l.stackTraces = false) (ad : Nat → Nat → Nat) (x : St) (oa : Nat) (v : Int64) (a0 : Int32) (h0 : inF a0 0 24 = 0) : Met l yX0_breach (wsW_ yX0_breach cX0_breach 4 (some .int) [(0, 9, 12, 13), (0, 9, 15, 25)]) rm_X0_breach_n1 (va_Pc [.ref (ad 0 0), .int a0, .ref oa] (mPre g A (cwM g ad (Mo g oa v) x))) (pQi g A 1 (cwM g ad (Mo g oa v) x)) 1 6 A := by
  refine m_startW RX0 rfl (by decide) (Nat.le_of_ble_eq_true rfl) ?_
  intro p e s m args below meth c hcf hr hlk hnm hE hA htb H locs hM hS ls hl
  have hx := hcf.1
  have hb := hcf.2.1
  have hml := hcf.2.2.1
  have hown := hcf.2.2.2.1
  have hts := hcf.2.2.2.2
  have hl : lv_has ls 4 [(0, .ref (ad 0 0)), (1, .int a0), (2, .ref oa)] := hl
  generalize hQ : MQ below (pQi g A 1 (cwM g ad (Mo g oa v) x)) args s 1 6 A = Q
  refine lv_aload_n hx hb dX0_breach_0 rfl (lv_at hl 2 rfl) ?_
  refine lv_iconst (v := 0) hx hb dX0_breach_1 (by decide) ?_
  refine lv_aload_n hx hb dX0_breach_2 rfl (lv_at hl 0 rfl) ?_
  refine lv_iload_n hx hb dX0_breach_3 rfl (lv_at hl 1 rfl) ?_
  refine m_xcatch (own := "WakegroundLaw") (name := "java/lang/IndexOutOfBoundsException") (m_xV (As := [.int a0]) (rest := [.int 0, .ref oa]) hcf (k_X1_breach_n1 l g A hlt ad (Mo g oa v) x a0 h0) (cwV 1 hts (lw_V q646 q647 q648 q35 q649) rfl rfl rfl (by decide +kernel) ⟨Nat.le_of_ble_eq_true rfl, Nat.le_of_ble_eq_true rfl⟩) hE hA hM hS 0 0 cw_0 (ci := 0) rfl rfl hl.1 rfl (Nat.le_of_ble_eq_true rfl) dX0_breach_4 ⟨Nat.le_of_ble_eq_true rfl, Nat.le_of_ble_eq_true rfl⟩) hS hown [] ⟨0, 9, 12, 13⟩ [⟨0, 9, 15, 25⟩] (htb.trans rfl) (fun z hz => absurd hz List.not_mem_nil) rfl (by decide) (hts _ q374) (va_Nw.use rfl (hE.nw 3 rfl)) (fun q9 H locs hM hS => ?_)
  refine lv_astore_n (lv' := [(3, .ref q9), (0, .ref (ad 0 0)), (1, .int a0), (2, .ref oa)]) hx hb dX0_breach_12 rfl hl (by decide) rfl (fun ls hl => ?_)
  refine lv_iconst (v := 1) hx hb dX0_breach_13 (by decide) ?_
  rw [← hQ]
  exact m_iret () hx hb hr rfl hlk hM hS (by first | rfl) (by first | decide | omega) (by first | decide | omega) dX0_breach_14

abbrev rm_X0_breach_n2 : Room := { frames := 8, cells := 1, slots := 6, locals := 126 }
theorem k_X0_breach_n2 (l : Launch) (g : GG) (A : Nat → Prop) (hlt : l.stackTraces = false) (ad : Nat → Nat → Nat) (x : St) (oa : Nat) (v : Int64) (k : Nat) (hk : k < 25) (hw : cbrW x k = 0) : Met l yX0_breach (wsW_ yX0_breach cX0_breach 4 (some .int) [(0, 9, 12, 13), (0, 9, 15, 25)]) rm_X0_breach_n2 (va_Pc [.ref (ad 0 0), .int (nI k), .ref oa] (mPre g A (cwM g ad (Mo g oa v) x))) (pQi g A 2 (cwM g ad (Mo g oa v) x)) 1 6 A := by
  refine m_startW RX0 rfl (by decide) (Nat.le_of_ble_eq_true rfl) ?_
  intro p e s m args below meth c hcf hr hlk hnm hE hA htb H locs hM hS ls hl
  have hx := hcf.1
  have hb := hcf.2.1
  have hml := hcf.2.2.1
  have hown := hcf.2.2.2.1
  have hts := hcf.2.2.2.2
  have hl : lv_has ls 4 [(0, .ref (ad 0 0)), (1, .int (nI k)), (2, .ref oa)] := hl
  generalize hQ : MQ below (pQi g A 2 (cwM g ad (Mo g oa v) x)) args s 1 6 A = Q
  refine lv_aload_n hx hb dX0_breach_0 rfl (lv_at hl 2 rfl) ?_
  refine lv_iconst (v := 0) hx hb dX0_breach_1 (by decide) ?_
  refine lv_aload_n hx hb dX0_breach_2 rfl (lv_at hl 0 rfl) ?_
  refine lv_iload_n hx hb dX0_breach_3 rfl (lv_at hl 1 rfl) ?_
  refine m_xcatch (own := "WakegroundLaw") (name := "java/lang/IllegalStateException") (m_xV (As := [.int (nI k)]) (rest := [.int 0, .ref oa]) hcf (k_X1_breach_n2 l g A hlt ad (Mo g oa v) x k hk hw) (cwV 1 hts (lw_V q646 q647 q648 q35 q649) rfl rfl rfl (by decide +kernel) ⟨Nat.le_of_ble_eq_true rfl, Nat.le_of_ble_eq_true rfl⟩) hE hA hM hS 0 0 cw_0 (ci := 0) rfl rfl hl.1 rfl (Nat.le_of_ble_eq_true rfl) dX0_breach_4 ⟨Nat.le_of_ble_eq_true rfl, Nat.le_of_ble_eq_true rfl⟩) hS hown [⟨0, 9, 12, 13⟩] ⟨0, 9, 15, 25⟩ [] (htb.trans rfl) (fun z hz => by rw [List.mem_singleton.mp hz]; exact Or.inr ⟨by decide, _, hts _ q374, hE.X.2.2.2.2.2.1⟩) rfl (by decide) (hts _ q468) (va_Nw.use rfl (hE.nw 5 rfl)) (fun q9 H locs hM hS => ?_)
  refine lv_astore_n (lv' := [(3, .ref q9), (0, .ref (ad 0 0)), (1, .int (nI k)), (2, .ref oa)]) hx hb dX0_breach_15 rfl hl (by decide) rfl (fun ls hl => ?_)
  refine lv_iconst (v := 2) hx hb dX0_breach_16 (by decide) ?_
  rw [← hQ]
  exact m_iret () hx hb hr rfl hlk hM hS (by first | rfl) (by first | decide | omega) (by first | decide | omega) dX0_breach_17

abbrev rm_X0_house_n1 : Room := { frames := 9, cells := 1, slots := 6, locals := 147 }
theorem k_X0_house_n1 (l : Launch) (g : GG) (A : Nat → Prop) (hlt : l.stackTraces = false) (ad : Nat → Nat → Nat) (x : St) (oa : Nat) (v : Int64) (hls : lsOK x) (a0 a1 a2 : Int32) (h0 : inF a0 0 24 = 0) : Met l yX0_house (wsW_ yX0_house cX0_house 6 (some .int) [(0, 12, 15, 13), (0, 12, 19, 25)]) rm_X0_house_n1 (va_Pc [.ref (ad 0 0), .int a0, .int a1, .int a2, .ref oa] (mPre g A (cwM g ad (Mo g oa v) x))) (pQi g A 1 (cwM g ad (Mo g oa v) x)) 1 6 A := by
  refine m_startW RX0 rfl (by decide) (Nat.le_of_ble_eq_true rfl) ?_
  intro p e s m args below meth c hcf hr hlk hnm hE hA htb H locs hM hS ls hl
  have hx := hcf.1
  have hb := hcf.2.1
  have hml := hcf.2.2.1
  have hown := hcf.2.2.2.1
  have hts := hcf.2.2.2.2
  have hl : lv_has ls 6 [(0, .ref (ad 0 0)), (1, .int a0), (2, .int a1), (3, .int a2), (4, .ref oa)] := hl
  generalize hQ : MQ below (pQi g A 1 (cwM g ad (Mo g oa v) x)) args s 1 6 A = Q
  refine lv_aload hx hb dX0_house_0 (lv_at hl 4 rfl) ?_
  refine lv_iconst (v := 0) hx hb dX0_house_2 (by decide) ?_
  refine lv_aload_n hx hb dX0_house_3 rfl (lv_at hl 0 rfl) ?_
  refine lv_iload_n hx hb dX0_house_4 rfl (lv_at hl 1 rfl) ?_
  refine lv_iload_n hx hb dX0_house_5 rfl (lv_at hl 2 rfl) ?_
  refine lv_iload_n hx hb dX0_house_6 rfl (lv_at hl 3 rfl) ?_
  refine m_xcatch (own := "WakegroundLaw") (name := "java/lang/IndexOutOfBoundsException") (m_xV (As := [.int a0, .int a1, .int a2]) (rest := [.int 0, .ref oa]) hcf (k_X1_house_n1 l g A hlt ad (Mo g oa v) x hls a0 a1 a2 h0) (cwV 3 hts (lw_V q653 q654 q655 q35 q656) rfl rfl rfl (by decide +kernel) ⟨Nat.le_of_ble_eq_true rfl, Nat.le_of_ble_eq_true rfl⟩) hE hA hM hS 0 0 cw_0 (ci := 0) rfl rfl hl.1 rfl (Nat.le_of_ble_eq_true rfl) dX0_house_7 ⟨Nat.le_of_ble_eq_true rfl, Nat.le_of_ble_eq_true rfl⟩) hS hown [] ⟨0, 12, 15, 13⟩ [⟨0, 12, 19, 25⟩] (htb.trans rfl) (fun z hz => absurd hz List.not_mem_nil) rfl (by decide) (hts _ q374) (va_Nw.use rfl (hE.nw 3 rfl)) (fun q9 H locs hM hS => ?_)
  refine lv_astore (lv' := [(5, .ref q9), (0, .ref (ad 0 0)), (1, .int a0), (2, .int a1), (3, .int a2), (4, .ref oa)]) hx hb dX0_house_15 hl (by decide) rfl (fun ls hl => ?_)
  refine lv_iconst (v := 1) hx hb dX0_house_17 (by decide) ?_
  rw [← hQ]
  exact m_iret () hx hb hr rfl hlk hM hS (by first | rfl) (by first | decide | omega) (by first | decide | omega) dX0_house_18

abbrev rm_X0_house_n2 : Room := { frames := 8, cells := 1, slots := 6, locals := 126 }
theorem k_X0_house_n2 (l : Launch) (g : GG) (A : Nat → Prop) (hlt : l.stackTraces = false) (ad : Nat → Nat → Nat) (x : St) (oa : Nat) (v : Int64) (hls : lsOK x) (k : Nat) (hk : k < 25) (a1 a2 : Int32) (h1 : inF a1 1 4 = 0) : Met l yX0_house (wsW_ yX0_house cX0_house 6 (some .int) [(0, 12, 15, 13), (0, 12, 19, 25)]) rm_X0_house_n2 (va_Pc [.ref (ad 0 0), .int (nI k), .int a1, .int a2, .ref oa] (mPre g A (cwM g ad (Mo g oa v) x))) (pQi g A 1 (cwM g ad (Mo g oa v) x)) 1 6 A := by
  refine m_startW RX0 rfl (by decide) (Nat.le_of_ble_eq_true rfl) ?_
  intro p e s m args below meth c hcf hr hlk hnm hE hA htb H locs hM hS ls hl
  have hx := hcf.1
  have hb := hcf.2.1
  have hml := hcf.2.2.1
  have hown := hcf.2.2.2.1
  have hts := hcf.2.2.2.2
  have hl : lv_has ls 6 [(0, .ref (ad 0 0)), (1, .int (nI k)), (2, .int a1), (3, .int a2), (4, .ref oa)] := hl
  generalize hQ : MQ below (pQi g A 1 (cwM g ad (Mo g oa v) x)) args s 1 6 A = Q
  refine lv_aload hx hb dX0_house_0 (lv_at hl 4 rfl) ?_
  refine lv_iconst (v := 0) hx hb dX0_house_2 (by decide) ?_
  refine lv_aload_n hx hb dX0_house_3 rfl (lv_at hl 0 rfl) ?_
  refine lv_iload_n hx hb dX0_house_4 rfl (lv_at hl 1 rfl) ?_
  refine lv_iload_n hx hb dX0_house_5 rfl (lv_at hl 2 rfl) ?_
  refine lv_iload_n hx hb dX0_house_6 rfl (lv_at hl 3 rfl) ?_
  refine m_xcatch (own := "WakegroundLaw") (name := "java/lang/IndexOutOfBoundsException") (m_xV (As := [.int (nI k), .int a1, .int a2]) (rest := [.int 0, .ref oa]) hcf (k_X1_house_n2 l g A hlt ad (Mo g oa v) x hls k hk a1 a2 h1) (cwV 3 hts (lw_V q653 q654 q655 q35 q656) rfl rfl rfl (by decide +kernel) ⟨Nat.le_of_ble_eq_true rfl, Nat.le_of_ble_eq_true rfl⟩) hE hA hM hS 0 0 cw_0 (ci := 0) rfl rfl hl.1 rfl (Nat.le_of_ble_eq_true rfl) dX0_house_7 ⟨Nat.le_of_ble_eq_true rfl, Nat.le_of_ble_eq_true rfl⟩) hS hown [] ⟨0, 12, 15, 13⟩ [⟨0, 12, 19, 25⟩] (htb.trans rfl) (fun z hz => absurd hz List.not_mem_nil) rfl (by decide) (hts _ q374) (va_Nw.use rfl (hE.nw 3 rfl)) (fun q9 H locs hM hS => ?_)
  refine lv_astore (lv' := [(5, .ref q9), (0, .ref (ad 0 0)), (1, .int (nI k)), (2, .int a1), (3, .int a2), (4, .ref oa)]) hx hb dX0_house_15 hl (by decide) rfl (fun ls hl => ?_)
  refine lv_iconst (v := 1) hx hb dX0_house_17 (by decide) ?_
  rw [← hQ]
  exact m_iret () hx hb hr rfl hlk hM hS (by first | rfl) (by first | decide | omega) (by first | decide | omega) dX0_house_18

abbrev rm_X0_house_n3 : Room := { frames := 8, cells := 1, slots := 6, locals := 126 }
theorem k_X0_house_n3 (l : Launch) (g : GG) (A : Nat → Prop) (hlt : l.stackTraces = false) (ad : Nat → Nat → Nat) (x : St) (oa : Nat) (v : Int64) (hls : lsOK x) (k : Nat) (hk : k < 25) (a1 a2 : Int32) (h1 : inF a1 1 4 = 1) (hw : chsW x k = 0) : Met l yX0_house (wsW_ yX0_house cX0_house 6 (some .int) [(0, 12, 15, 13), (0, 12, 19, 25)]) rm_X0_house_n3 (va_Pc [.ref (ad 0 0), .int (nI k), .int a1, .int a2, .ref oa] (mPre g A (cwM g ad (Mo g oa v) x))) (pQi g A 2 (cwM g ad (Mo g oa v) x)) 1 6 A := by
  refine m_startW RX0 rfl (by decide) (Nat.le_of_ble_eq_true rfl) ?_
  intro p e s m args below meth c hcf hr hlk hnm hE hA htb H locs hM hS ls hl
  have hx := hcf.1
  have hb := hcf.2.1
  have hml := hcf.2.2.1
  have hown := hcf.2.2.2.1
  have hts := hcf.2.2.2.2
  have hl : lv_has ls 6 [(0, .ref (ad 0 0)), (1, .int (nI k)), (2, .int a1), (3, .int a2), (4, .ref oa)] := hl
  generalize hQ : MQ below (pQi g A 2 (cwM g ad (Mo g oa v) x)) args s 1 6 A = Q
  refine lv_aload hx hb dX0_house_0 (lv_at hl 4 rfl) ?_
  refine lv_iconst (v := 0) hx hb dX0_house_2 (by decide) ?_
  refine lv_aload_n hx hb dX0_house_3 rfl (lv_at hl 0 rfl) ?_
  refine lv_iload_n hx hb dX0_house_4 rfl (lv_at hl 1 rfl) ?_
  refine lv_iload_n hx hb dX0_house_5 rfl (lv_at hl 2 rfl) ?_
  refine lv_iload_n hx hb dX0_house_6 rfl (lv_at hl 3 rfl) ?_
  refine m_xcatch (own := "WakegroundLaw") (name := "java/lang/IllegalStateException") (m_xV (As := [.int (nI k), .int a1, .int a2]) (rest := [.int 0, .ref oa]) hcf (k_X1_house_n3 l g A hlt ad (Mo g oa v) x hls k hk a1 a2 h1 hw) (cwV 3 hts (lw_V q653 q654 q655 q35 q656) rfl rfl rfl (by decide +kernel) ⟨Nat.le_of_ble_eq_true rfl, Nat.le_of_ble_eq_true rfl⟩) hE hA hM hS 0 0 cw_0 (ci := 0) rfl rfl hl.1 rfl (Nat.le_of_ble_eq_true rfl) dX0_house_7 ⟨Nat.le_of_ble_eq_true rfl, Nat.le_of_ble_eq_true rfl⟩) hS hown [⟨0, 12, 15, 13⟩] ⟨0, 12, 19, 25⟩ [] (htb.trans rfl) (fun z hz => by rw [List.mem_singleton.mp hz]; exact Or.inr ⟨by decide, _, hts _ q374, hE.X.2.2.2.2.2.1⟩) rfl (by decide) (hts _ q468) (va_Nw.use rfl (hE.nw 5 rfl)) (fun q9 H locs hM hS => ?_)
  refine lv_astore (lv' := [(5, .ref q9), (0, .ref (ad 0 0)), (1, .int (nI k)), (2, .int a1), (3, .int a2), (4, .ref oa)]) hx hb dX0_house_19 hl (by decide) rfl (fun ls hl => ?_)
  refine lv_iconst (v := 2) hx hb dX0_house_21 (by decide) ?_
  rw [← hQ]
  exact m_iret () hx hb hr rfl hlk hM hS (by first | rfl) (by first | decide | omega) (by first | decide | omega) dX0_house_22

abbrev rm_X0_borehole_n1 : Room := { frames := 9, cells := 1, slots := 6, locals := 146 }
theorem k_X0_borehole_n1 (l : Launch) (g : GG) (A : Nat → Prop) (hlt : l.stackTraces = false) (ad : Nat → Nat → Nat) (x : St) (oa : Nat) (v : Int64) (hls : lsOK x) (a0 a1 : Int32) (h0 : inF a0 0 24 = 0) : Met l yX0_borehole (wsW_ yX0_borehole cX0_borehole 5 (some .int) [(0, 10, 13, 13), (0, 10, 17, 15), (0, 10, 21, 25)]) rm_X0_borehole_n1 (va_Pc [.ref (ad 0 0), .int a0, .int a1, .ref oa] (mPre g A (cwM g ad (Mo g oa v) x))) (pQi g A 1 (cwM g ad (Mo g oa v) x)) 1 6 A := by
  refine m_startW RX0 rfl (by decide) (Nat.le_of_ble_eq_true rfl) ?_
  intro p e s m args below meth c hcf hr hlk hnm hE hA htb H locs hM hS ls hl
  have hx := hcf.1
  have hb := hcf.2.1
  have hml := hcf.2.2.1
  have hown := hcf.2.2.2.1
  have hts := hcf.2.2.2.2
  have hl : lv_has ls 5 [(0, .ref (ad 0 0)), (1, .int a0), (2, .int a1), (3, .ref oa)] := hl
  generalize hQ : MQ below (pQi g A 1 (cwM g ad (Mo g oa v) x)) args s 1 6 A = Q
  refine lv_aload_n hx hb dX0_borehole_0 rfl (lv_at hl 3 rfl) ?_
  refine lv_iconst (v := 0) hx hb dX0_borehole_1 (by decide) ?_
  refine lv_aload_n hx hb dX0_borehole_2 rfl (lv_at hl 0 rfl) ?_
  refine lv_iload_n hx hb dX0_borehole_3 rfl (lv_at hl 1 rfl) ?_
  refine lv_iload_n hx hb dX0_borehole_4 rfl (lv_at hl 2 rfl) ?_
  refine m_xcatch (own := "WakegroundLaw") (name := "java/lang/IndexOutOfBoundsException") (m_xV (As := [.int a0, .int a1]) (rest := [.int 0, .ref oa]) hcf (k_X1_borehole_n1 l g A hlt ad (Mo g oa v) x hls a0 a1 h0) (cwV 2 hts (lw_V q742 q743 q744 q35 q745) rfl rfl rfl (by decide +kernel) ⟨Nat.le_of_ble_eq_true rfl, Nat.le_of_ble_eq_true rfl⟩) hE hA hM hS 0 0 cw_0 (ci := 0) rfl rfl hl.1 rfl (Nat.le_of_ble_eq_true rfl) dX0_borehole_5 ⟨Nat.le_of_ble_eq_true rfl, Nat.le_of_ble_eq_true rfl⟩) hS hown [] ⟨0, 10, 13, 13⟩ [⟨0, 10, 17, 15⟩, ⟨0, 10, 21, 25⟩] (htb.trans rfl) (fun z hz => absurd hz List.not_mem_nil) rfl (by decide) (hts _ q374) (va_Nw.use rfl (hE.nw 3 rfl)) (fun q9 H locs hM hS => ?_)
  refine lv_astore (lv' := [(4, .ref q9), (0, .ref (ad 0 0)), (1, .int a0), (2, .int a1), (3, .ref oa)]) hx hb dX0_borehole_13 hl (by decide) rfl (fun ls hl => ?_)
  refine lv_iconst (v := 1) hx hb dX0_borehole_15 (by decide) ?_
  rw [← hQ]
  exact m_iret () hx hb hr rfl hlk hM hS (by first | rfl) (by first | decide | omega) (by first | decide | omega) dX0_borehole_16

abbrev rm_X0_borehole_n2 : Room := { frames := 8, cells := 1, slots := 6, locals := 125 }
theorem k_X0_borehole_n2 (l : Launch) (g : GG) (A : Nat → Prop) (hlt : l.stackTraces = false) (ad : Nat → Nat → Nat) (x : St) (oa : Nat) (v : Int64) (hls : lsOK x) (k : Nat) (hk : k < 25) (a1 : Int32) (h1 : inF a1 (-12) 12 = 0) : Met l yX0_borehole (wsW_ yX0_borehole cX0_borehole 5 (some .int) [(0, 10, 13, 13), (0, 10, 17, 15), (0, 10, 21, 25)]) rm_X0_borehole_n2 (va_Pc [.ref (ad 0 0), .int (nI k), .int a1, .ref oa] (mPre g A (cwM g ad (Mo g oa v) x))) (pQi g A 2 (cwM g ad (Mo g oa v) x)) 1 6 A := by
  refine m_startW RX0 rfl (by decide) (Nat.le_of_ble_eq_true rfl) ?_
  intro p e s m args below meth c hcf hr hlk hnm hE hA htb H locs hM hS ls hl
  have hx := hcf.1
  have hb := hcf.2.1
  have hml := hcf.2.2.1
  have hown := hcf.2.2.2.1
  have hts := hcf.2.2.2.2
  have hl : lv_has ls 5 [(0, .ref (ad 0 0)), (1, .int (nI k)), (2, .int a1), (3, .ref oa)] := hl
  generalize hQ : MQ below (pQi g A 2 (cwM g ad (Mo g oa v) x)) args s 1 6 A = Q
  refine lv_aload_n hx hb dX0_borehole_0 rfl (lv_at hl 3 rfl) ?_
  refine lv_iconst (v := 0) hx hb dX0_borehole_1 (by decide) ?_
  refine lv_aload_n hx hb dX0_borehole_2 rfl (lv_at hl 0 rfl) ?_
  refine lv_iload_n hx hb dX0_borehole_3 rfl (lv_at hl 1 rfl) ?_
  refine lv_iload_n hx hb dX0_borehole_4 rfl (lv_at hl 2 rfl) ?_
  refine m_xcatch (own := "WakegroundLaw") (name := "java/lang/IllegalArgumentException") (m_xV (As := [.int (nI k), .int a1]) (rest := [.int 0, .ref oa]) hcf (k_X1_borehole_n2 l g A hlt ad (Mo g oa v) x hls k hk a1 h1) (cwV 2 hts (lw_V q742 q743 q744 q35 q745) rfl rfl rfl (by decide +kernel) ⟨Nat.le_of_ble_eq_true rfl, Nat.le_of_ble_eq_true rfl⟩) hE hA hM hS 0 0 cw_0 (ci := 0) rfl rfl hl.1 rfl (Nat.le_of_ble_eq_true rfl) dX0_borehole_5 ⟨Nat.le_of_ble_eq_true rfl, Nat.le_of_ble_eq_true rfl⟩) hS hown [⟨0, 10, 13, 13⟩] ⟨0, 10, 17, 15⟩ [⟨0, 10, 21, 25⟩] (htb.trans rfl) (fun z hz => by rw [List.mem_singleton.mp hz]; exact Or.inr ⟨by decide, _, hts _ q374, hE.X.2.2.2.2.1⟩) rfl (by decide) (hts _ q407) (va_Nw.use rfl (hE.nw 4 rfl)) (fun q9 H locs hM hS => ?_)
  refine lv_astore (lv' := [(4, .ref q9), (0, .ref (ad 0 0)), (1, .int (nI k)), (2, .int a1), (3, .ref oa)]) hx hb dX0_borehole_17 hl (by decide) rfl (fun ls hl => ?_)
  refine lv_iconst (v := 2) hx hb dX0_borehole_19 (by decide) ?_
  rw [← hQ]
  exact m_iret () hx hb hr rfl hlk hM hS (by first | rfl) (by first | decide | omega) (by first | decide | omega) dX0_borehole_20

abbrev rm_X0_borehole_n3 : Room := { frames := 8, cells := 1, slots := 6, locals := 125 }
theorem k_X0_borehole_n3 (l : Launch) (g : GG) (A : Nat → Prop) (hlt : l.stackTraces = false) (ad : Nat → Nat → Nat) (x : St) (oa : Nat) (v : Int64) (hls : lsOK x) (k : Nat) (hk : k < 25) (a1 : Int32) (h1 : inF a1 (-12) 12 = 1) (hw : cboW x = 0) : Met l yX0_borehole (wsW_ yX0_borehole cX0_borehole 5 (some .int) [(0, 10, 13, 13), (0, 10, 17, 15), (0, 10, 21, 25)]) rm_X0_borehole_n3 (va_Pc [.ref (ad 0 0), .int (nI k), .int a1, .ref oa] (mPre g A (cwM g ad (Mo g oa v) x))) (pQi g A 3 (cwM g ad (Mo g oa v) x)) 1 6 A := by
  refine m_startW RX0 rfl (by decide) (Nat.le_of_ble_eq_true rfl) ?_
  intro p e s m args below meth c hcf hr hlk hnm hE hA htb H locs hM hS ls hl
  have hx := hcf.1
  have hb := hcf.2.1
  have hml := hcf.2.2.1
  have hown := hcf.2.2.2.1
  have hts := hcf.2.2.2.2
  have hl : lv_has ls 5 [(0, .ref (ad 0 0)), (1, .int (nI k)), (2, .int a1), (3, .ref oa)] := hl
  generalize hQ : MQ below (pQi g A 3 (cwM g ad (Mo g oa v) x)) args s 1 6 A = Q
  refine lv_aload_n hx hb dX0_borehole_0 rfl (lv_at hl 3 rfl) ?_
  refine lv_iconst (v := 0) hx hb dX0_borehole_1 (by decide) ?_
  refine lv_aload_n hx hb dX0_borehole_2 rfl (lv_at hl 0 rfl) ?_
  refine lv_iload_n hx hb dX0_borehole_3 rfl (lv_at hl 1 rfl) ?_
  refine lv_iload_n hx hb dX0_borehole_4 rfl (lv_at hl 2 rfl) ?_
  refine m_xcatch (own := "WakegroundLaw") (name := "java/lang/IllegalStateException") (m_xV (As := [.int (nI k), .int a1]) (rest := [.int 0, .ref oa]) hcf (k_X1_borehole_n3 l g A hlt ad (Mo g oa v) x hls k hk a1 h1 hw) (cwV 2 hts (lw_V q742 q743 q744 q35 q745) rfl rfl rfl (by decide +kernel) ⟨Nat.le_of_ble_eq_true rfl, Nat.le_of_ble_eq_true rfl⟩) hE hA hM hS 0 0 cw_0 (ci := 0) rfl rfl hl.1 rfl (Nat.le_of_ble_eq_true rfl) dX0_borehole_5 ⟨Nat.le_of_ble_eq_true rfl, Nat.le_of_ble_eq_true rfl⟩) hS hown [⟨0, 10, 13, 13⟩, ⟨0, 10, 17, 15⟩] ⟨0, 10, 21, 25⟩ [] (htb.trans rfl) (fun z hz => by rcases List.mem_cons.mp hz with rfl | hz; (exact Or.inr ⟨by decide, _, hts _ q374, hE.X.2.2.2.2.2.1⟩); (rw [List.mem_singleton.mp hz]; exact Or.inr ⟨by decide, _, hts _ q407, hE.X.2.2.2.2.2.2.1⟩)) rfl (by decide) (hts _ q468) (va_Nw.use rfl (hE.nw 5 rfl)) (fun q9 H locs hM hS => ?_)
  refine lv_astore (lv' := [(4, .ref q9), (0, .ref (ad 0 0)), (1, .int (nI k)), (2, .int a1), (3, .ref oa)]) hx hb dX0_borehole_21 hl (by decide) rfl (fun ls hl => ?_)
  refine lv_iconst (v := 3) hx hb dX0_borehole_23 (by decide) ?_
  rw [← hQ]
  exact m_iret () hx hb hr rfl hlk hM hS (by first | rfl) (by first | decide | omega) (by first | decide | omega) dX0_borehole_24

abbrev rm_X0_claim_n1 : Room := { frames := 9, cells := 1, slots := 6, locals := 145 }
theorem k_X0_claim_n1 (l : Launch) (g : GG) (A : Nat → Prop) (hlt : l.stackTraces = false) (ad : Nat → Nat → Nat) (x : St) (oa : Nat) (v : Int64) (hls : lsOK x) (a0 : Int32) (h0 : inF a0 0 (nI (nt x 13 0) - 1) = 0) : Met l yX0_claim (wsW_ yX0_claim cX0_claim 4 (some .int) [(0, 9, 12, 13), (0, 9, 15, 25)]) rm_X0_claim_n1 (va_Pc [.ref (ad 0 0), .int a0, .ref oa] (mPre g A (cwM g ad (Mo g oa v) x))) (pQi g A 1 (cwM g ad (Mo g oa v) x)) 1 6 A := by
  refine m_startW RX0 rfl (by decide) (Nat.le_of_ble_eq_true rfl) ?_
  intro p e s m args below meth c hcf hr hlk hnm hE hA htb H locs hM hS ls hl
  have hx := hcf.1
  have hb := hcf.2.1
  have hml := hcf.2.2.1
  have hown := hcf.2.2.2.1
  have hts := hcf.2.2.2.2
  have hl : lv_has ls 4 [(0, .ref (ad 0 0)), (1, .int a0), (2, .ref oa)] := hl
  generalize hQ : MQ below (pQi g A 1 (cwM g ad (Mo g oa v) x)) args s 1 6 A = Q
  refine lv_aload_n hx hb dX0_claim_0 rfl (lv_at hl 2 rfl) ?_
  refine lv_iconst (v := 0) hx hb dX0_claim_1 (by decide) ?_
  refine lv_aload_n hx hb dX0_claim_2 rfl (lv_at hl 0 rfl) ?_
  refine lv_iload_n hx hb dX0_claim_3 rfl (lv_at hl 1 rfl) ?_
  refine m_xcatch (own := "WakegroundLaw") (name := "java/lang/IndexOutOfBoundsException") (m_xV (As := [.int a0]) (rest := [.int 0, .ref oa]) hcf (k_X1_claim_n1 l g A hlt ad (Mo g oa v) x hls a0 h0) (cwV 1 hts (lw_V q766 q767 q768 q35 q769) rfl rfl rfl (by decide +kernel) ⟨Nat.le_of_ble_eq_true rfl, Nat.le_of_ble_eq_true rfl⟩) hE hA hM hS 0 0 cw_0 (ci := 0) rfl rfl hl.1 rfl (Nat.le_of_ble_eq_true rfl) dX0_claim_4 ⟨Nat.le_of_ble_eq_true rfl, Nat.le_of_ble_eq_true rfl⟩) hS hown [] ⟨0, 9, 12, 13⟩ [⟨0, 9, 15, 25⟩] (htb.trans rfl) (fun z hz => absurd hz List.not_mem_nil) rfl (by decide) (hts _ q374) (va_Nw.use rfl (hE.nw 3 rfl)) (fun q9 H locs hM hS => ?_)
  refine lv_astore_n (lv' := [(3, .ref q9), (0, .ref (ad 0 0)), (1, .int a0), (2, .ref oa)]) hx hb dX0_claim_12 rfl hl (by decide) rfl (fun ls hl => ?_)
  refine lv_iconst (v := 1) hx hb dX0_claim_13 (by decide) ?_
  rw [← hQ]
  exact m_iret () hx hb hr rfl hlk hM hS (by first | rfl) (by first | decide | omega) (by first | decide | omega) dX0_claim_14

abbrev rm_X0_claim_n2 : Room := { frames := 8, cells := 1, slots := 6, locals := 124 }
theorem k_X0_claim_n2 (l : Launch) (g : GG) (A : Nat → Prop) (hlt : l.stackTraces = false) (ad : Nat → Nat → Nat) (x : St) (oa : Nat) (v : Int64) (hls : lsOK x) (h : Nat) (hh : h < nt x 13 0) (hw : ccmW x = 0) : Met l yX0_claim (wsW_ yX0_claim cX0_claim 4 (some .int) [(0, 9, 12, 13), (0, 9, 15, 25)]) rm_X0_claim_n2 (va_Pc [.ref (ad 0 0), .int (nI h), .ref oa] (mPre g A (cwM g ad (Mo g oa v) x))) (pQi g A 2 (cwM g ad (Mo g oa v) x)) 1 6 A := by
  refine m_startW RX0 rfl (by decide) (Nat.le_of_ble_eq_true rfl) ?_
  intro p e s m args below meth c hcf hr hlk hnm hE hA htb H locs hM hS ls hl
  have hx := hcf.1
  have hb := hcf.2.1
  have hml := hcf.2.2.1
  have hown := hcf.2.2.2.1
  have hts := hcf.2.2.2.2
  have hl : lv_has ls 4 [(0, .ref (ad 0 0)), (1, .int (nI h)), (2, .ref oa)] := hl
  generalize hQ : MQ below (pQi g A 2 (cwM g ad (Mo g oa v) x)) args s 1 6 A = Q
  refine lv_aload_n hx hb dX0_claim_0 rfl (lv_at hl 2 rfl) ?_
  refine lv_iconst (v := 0) hx hb dX0_claim_1 (by decide) ?_
  refine lv_aload_n hx hb dX0_claim_2 rfl (lv_at hl 0 rfl) ?_
  refine lv_iload_n hx hb dX0_claim_3 rfl (lv_at hl 1 rfl) ?_
  refine m_xcatch (own := "WakegroundLaw") (name := "java/lang/IllegalStateException") (m_xV (As := [.int (nI h)]) (rest := [.int 0, .ref oa]) hcf (k_X1_claim_n2 l g A hlt ad (Mo g oa v) x hls h hh hw) (cwV 1 hts (lw_V q766 q767 q768 q35 q769) rfl rfl rfl (by decide +kernel) ⟨Nat.le_of_ble_eq_true rfl, Nat.le_of_ble_eq_true rfl⟩) hE hA hM hS 0 0 cw_0 (ci := 0) rfl rfl hl.1 rfl (Nat.le_of_ble_eq_true rfl) dX0_claim_4 ⟨Nat.le_of_ble_eq_true rfl, Nat.le_of_ble_eq_true rfl⟩) hS hown [⟨0, 9, 12, 13⟩] ⟨0, 9, 15, 25⟩ [] (htb.trans rfl) (fun z hz => by rw [List.mem_singleton.mp hz]; exact Or.inr ⟨by decide, _, hts _ q374, hE.X.2.2.2.2.2.1⟩) rfl (by decide) (hts _ q468) (va_Nw.use rfl (hE.nw 5 rfl)) (fun q9 H locs hM hS => ?_)
  refine lv_astore_n (lv' := [(3, .ref q9), (0, .ref (ad 0 0)), (1, .int (nI h)), (2, .ref oa)]) hx hb dX0_claim_15 rfl hl (by decide) rfl (fun ls hl => ?_)
  refine lv_iconst (v := 2) hx hb dX0_claim_16 (by decide) ?_
  rw [← hQ]
  exact m_iret () hx hb hr rfl hlk hM hS (by first | rfl) (by first | decide | omega) (by first | decide | omega) dX0_claim_17

abbrev rm_X0_house_ok : Room := { frames := 8, cells := 2, slots := 105, locals := 215 }
theorem k_X0_house_ok (l : Launch) (g : GG) (A : Nat → Prop) (ad : Nat → Nat → Nat) (x : St) (oa : Nat) (v : Int64) (hls : lsOK x) (hcp : capOK x) (hho : hoOK x) (hcl : clOK x) (k : Nat) (hk : k < 25) (a1 a2 : Int32) (h1 : inF a1 1 4 = 1) (hz9 : narrow .boolean (.int a2) = .int a2) (hz8 : fits .boolean (.int a2) = true) (hw : chsW x k = 1) : Met l yX0_house (wsW_ yX0_house cX0_house 6 (some .int) [(0, 12, 15, 13), (0, 12, 19, 25)]) rm_X0_house_ok (va_Pc [.ref (ad 0 0), .int (nI k), .int a1, .int a2, .ref oa] (mPre g A (cwM g ad (Mo g oa v) x))) (va_Qi (fun (r : Int32) (ad2 : Nat → Nat → Nat) => r = 0 ∧ ad2 0 0 = ad 0 0) (fun ad2 t => mW g.1 A (cwM g ad2 (Mo g oa ((nI (nt x 13 0 + 1) - 1).toInt64)) (chsF x k a1 a2)) t.heap) A) 2 105 A := by
  refine m_startW RX0 rfl (by decide) (Nat.le_of_ble_eq_true rfl) ?_
  intro p e s m args below meth c hcf hr hlk hnm hE hA htb H locs hM hS ls hl
  have hx := hcf.1
  have hb := hcf.2.1
  have hml := hcf.2.2.1
  have hown := hcf.2.2.2.1
  have hts := hcf.2.2.2.2
  have hl : lv_has ls 6 [(0, .ref (ad 0 0)), (1, .int (nI k)), (2, .int a1), (3, .int a2), (4, .ref oa)] := hl
  generalize hQ : MQ below (va_Qi (fun (r : Int32) (ad2 : Nat → Nat → Nat) => r = 0 ∧ ad2 0 0 = ad 0 0) (fun ad2 t => mW g.1 A (cwM g ad2 (Mo g oa ((nI (nt x 13 0 + 1) - 1).toInt64)) (chsF x k a1 a2)) t.heap) A) args s 2 105 A = Q
  refine lv_aload hx hb dX0_house_0 (lv_at hl 4 rfl) ?_
  refine lv_iconst (v := 0) hx hb dX0_house_2 (by decide) ?_
  refine lv_aload_n hx hb dX0_house_3 rfl (lv_at hl 0 rfl) ?_
  refine lv_iload_n hx hb dX0_house_4 rfl (lv_at hl 1 rfl) ?_
  refine lv_iload_n hx hb dX0_house_5 rfl (lv_at hl 2 rfl) ?_
  refine lv_iload_n hx hb dX0_house_6 rfl (lv_at hl 3 rfl) ?_
  refine m_ci (m_rV (As := [.int (nI k), .int a1, .int a2]) (rest := [.int 0, .ref oa]) hcf (k_X1_house_ok l g A ad (Mo g oa v) x hls hcp hho hcl (Mo_n _ _ _ (by decide)) (Mo_n _ _ _ (by decide)) (Mo_n _ _ _ (by decide)) k hk a1 a2 h1 hz9 hz8 hw) (cwV 3 hts (lw_V q653 q654 q655 q35 q656) rfl rfl rfl (by decide +kernel) ⟨Nat.le_of_ble_eq_true rfl, Nat.le_of_ble_eq_true rfl⟩) hE hA hM hS 0 0 cw_0 (ci := 0) rfl rfl hl.1 rfl (Nat.le_of_ble_eq_true rfl) dX0_house_7 ⟨Nat.le_of_ble_eq_true rfl, Nat.le_of_ble_eq_true rfl⟩) hS (fun r9 ad2 H locs hr9 hM hS => ?_)
  obtain ⟨hr9, had2⟩ := hr9
  subst hr9
  refine lv_i2l hx hb dX0_house_10 rfl ?_
  refine mo_st (w := (nI (nt x 13 0 + 1) - 1).toInt64) hcf hE hM hS dX0_house_11 (fun H locs hM hS => ?_)
  refine lv_goto (tgt := 23) hx hb dX0_house_12 (by decide) ?_
  refine lv_iconst (v := 0) hx hb dX0_house_23 (by decide) ?_
  rw [← hQ]
  exact m_iret ad2 hx hb hr rfl hlk hM hS ⟨rfl, had2⟩ (by first | decide | omega) (by first | decide | omega) dX0_house_24

abbrev rm_X0_borehole_ok : Room := { frames := 8, cells := 3, slots := 3104, locals := 214 }
theorem k_X0_borehole_ok (l : Launch) (g : GG) (A : Nat → Prop) (ad : Nat → Nat → Nat) (x : St) (oa : Nat) (v : Int64) (hls : lsOK x) (hcp : capOK x) (hho : hoOK x) (hcl : clOK x) (k : Nat) (hk : k < 25) (a1 : Int32) (h1 : inF a1 (-12) 12 = 1) (hw : cboW x = 1) : Met l yX0_borehole (wsW_ yX0_borehole cX0_borehole 5 (some .int) [(0, 10, 13, 13), (0, 10, 17, 15), (0, 10, 21, 25)]) rm_X0_borehole_ok (va_Pc [.ref (ad 0 0), .int (nI k), .int a1, .ref oa] (mPre g A (cwM g ad (Mo g oa v) x))) (va_Qi (fun (r : Int32) (ad2 : Nat → Nat → Nat) => r = 0 ∧ ad2 0 0 = ad 0 0) (fun ad2 t => mW g.1 A (cwM g ad2 (Mo g oa ((nI (nt x 19 0 + 1) - 1).toInt64)) (cboF x k a1)) t.heap) A) 3 3104 A := by
  refine m_startW RX0 rfl (by decide) (Nat.le_of_ble_eq_true rfl) ?_
  intro p e s m args below meth c hcf hr hlk hnm hE hA htb H locs hM hS ls hl
  have hx := hcf.1
  have hb := hcf.2.1
  have hml := hcf.2.2.1
  have hown := hcf.2.2.2.1
  have hts := hcf.2.2.2.2
  have hl : lv_has ls 5 [(0, .ref (ad 0 0)), (1, .int (nI k)), (2, .int a1), (3, .ref oa)] := hl
  generalize hQ : MQ below (va_Qi (fun (r : Int32) (ad2 : Nat → Nat → Nat) => r = 0 ∧ ad2 0 0 = ad 0 0) (fun ad2 t => mW g.1 A (cwM g ad2 (Mo g oa ((nI (nt x 19 0 + 1) - 1).toInt64)) (cboF x k a1)) t.heap) A) args s 3 3104 A = Q
  refine lv_aload_n hx hb dX0_borehole_0 rfl (lv_at hl 3 rfl) ?_
  refine lv_iconst (v := 0) hx hb dX0_borehole_1 (by decide) ?_
  refine lv_aload_n hx hb dX0_borehole_2 rfl (lv_at hl 0 rfl) ?_
  refine lv_iload_n hx hb dX0_borehole_3 rfl (lv_at hl 1 rfl) ?_
  refine lv_iload_n hx hb dX0_borehole_4 rfl (lv_at hl 2 rfl) ?_
  refine m_ci (m_rV (As := [.int (nI k), .int a1]) (rest := [.int 0, .ref oa]) hcf (k_X1_borehole_ok l g A ad (Mo g oa v) x hls hcp hho hcl (Mo_n _ _ _ (by decide)) (Mo_n _ _ _ (by decide)) (Mo_n _ _ _ (by decide)) k hk a1 h1 hw) (cwV 2 hts (lw_V q742 q743 q744 q35 q745) rfl rfl rfl (by decide +kernel) ⟨Nat.le_of_ble_eq_true rfl, Nat.le_of_ble_eq_true rfl⟩) hE hA hM hS 0 0 cw_0 (ci := 0) rfl rfl hl.1 rfl (Nat.le_of_ble_eq_true rfl) dX0_borehole_5 ⟨Nat.le_of_ble_eq_true rfl, Nat.le_of_ble_eq_true rfl⟩) hS (fun r9 ad2 H locs hr9 hM hS => ?_)
  obtain ⟨hr9, had2⟩ := hr9
  subst hr9
  refine lv_i2l hx hb dX0_borehole_8 rfl ?_
  refine mo_st (w := (nI (nt x 19 0 + 1) - 1).toInt64) hcf hE hM hS dX0_borehole_9 (fun H locs hM hS => ?_)
  refine lv_goto (tgt := 25) hx hb dX0_borehole_10 (by decide) ?_
  refine lv_iconst (v := 0) hx hb dX0_borehole_25 (by decide) ?_
  rw [← hQ]
  exact m_iret ad2 hx hb hr rfl hlk hM hS ⟨rfl, had2⟩ (by first | decide | omega) (by first | decide | omega) dX0_borehole_26

abbrev rm_X0_claim_ok : Room := { frames := 8, cells := 2, slots := 104, locals := 213 }
theorem k_X0_claim_ok (l : Launch) (g : GG) (A : Nat → Prop) (ad : Nat → Nat → Nat) (x : St) (oa : Nat) (v : Int64) (hok : okM x) (hls : lsOK x) (hcp : capOK x) (hho : hoOK x) (hcl : clOK x) (h : Nat) (hh : h < nt x 13 0) (hw : ccmW x = 1) : Met l yX0_claim (wsW_ yX0_claim cX0_claim 4 (some .int) [(0, 9, 12, 13), (0, 9, 15, 25)]) rm_X0_claim_ok (va_Pc [.ref (ad 0 0), .int (nI h), .ref oa] (mPre g A (cwM g ad (Mo g oa v) x))) (va_Qi (fun (r : Int32) (ad2 : Nat → Nat → Nat) => r = 0 ∧ ad2 0 0 = ad 0 0) (fun ad2 t => mW g.1 A (cwM g ad2 (Mo g oa ((nI (nt x 24 0 + 1) - 1).toInt64)) (ccmF x h (nI (nt x 1 0)) (cdueF x h (x.1 17 h) (nt x 1 0)))) t.heap) A) 2 104 A := by
  refine m_startW RX0 rfl (by decide) (Nat.le_of_ble_eq_true rfl) ?_
  intro p e s m args below meth c hcf hr hlk hnm hE hA htb H locs hM hS ls hl
  have hx := hcf.1
  have hb := hcf.2.1
  have hml := hcf.2.2.1
  have hown := hcf.2.2.2.1
  have hts := hcf.2.2.2.2
  have hl : lv_has ls 4 [(0, .ref (ad 0 0)), (1, .int (nI h)), (2, .ref oa)] := hl
  generalize hQ : MQ below (va_Qi (fun (r : Int32) (ad2 : Nat → Nat → Nat) => r = 0 ∧ ad2 0 0 = ad 0 0) (fun ad2 t => mW g.1 A (cwM g ad2 (Mo g oa ((nI (nt x 24 0 + 1) - 1).toInt64)) (ccmF x h (nI (nt x 1 0)) (cdueF x h (x.1 17 h) (nt x 1 0)))) t.heap) A) args s 2 104 A = Q
  refine lv_aload_n hx hb dX0_claim_0 rfl (lv_at hl 2 rfl) ?_
  refine lv_iconst (v := 0) hx hb dX0_claim_1 (by decide) ?_
  refine lv_aload_n hx hb dX0_claim_2 rfl (lv_at hl 0 rfl) ?_
  refine lv_iload_n hx hb dX0_claim_3 rfl (lv_at hl 1 rfl) ?_
  refine m_ci (m_rV (As := [.int (nI h)]) (rest := [.int 0, .ref oa]) hcf (k_X1_claim_ok l g A ad (Mo g oa v) x hok hls hcp hho hcl (Mo_n _ _ _ (by decide)) (Mo_n _ _ _ (by decide)) (Mo_n _ _ _ (by decide)) h hh hw) (cwV 1 hts (lw_V q766 q767 q768 q35 q769) rfl rfl rfl (by decide +kernel) ⟨Nat.le_of_ble_eq_true rfl, Nat.le_of_ble_eq_true rfl⟩) hE hA hM hS 0 0 cw_0 (ci := 0) rfl rfl hl.1 rfl (Nat.le_of_ble_eq_true rfl) dX0_claim_4 ⟨Nat.le_of_ble_eq_true rfl, Nat.le_of_ble_eq_true rfl⟩) hS (fun r9 ad2 H locs hr9 hM hS => ?_)
  obtain ⟨hr9, had2⟩ := hr9
  subst hr9
  refine lv_i2l hx hb dX0_claim_7 rfl ?_
  refine mo_st (w := (nI (nt x 24 0 + 1) - 1).toInt64) hcf hE hM hS dX0_claim_8 (fun H locs hM hS => ?_)
  refine lv_goto (tgt := 18) hx hb dX0_claim_9 (by decide) ?_
  refine lv_iconst (v := 0) hx hb dX0_claim_18 (by decide) ?_
  rw [← hQ]
  exact m_iret ad2 hx hb hr rfl hlk hM hS ⟨rfl, had2⟩ (by first | decide | omega) (by first | decide | omega) dX0_claim_19
