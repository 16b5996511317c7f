/-! what throws: a contract of a method that throws where it is asked so; the first of the class's own methods -/
set_option maxRecDepth 100000
def mX (g : GG) (A : Nat → Prop) (E0 : String) (M' : MM) : String → State → State → Prop := vx_X (fun (_ : Unit) => True) (fun E _ t => E = E0 ∧ mW g.1 A M' t.heap) A
abbrev pNo : Array Value → State → Outcome → State → Prop := fun _ _ _ _ => False
theorem m_startX {l : Launch} {y : MethodName} {cc : ByteArray} {maxL : Nat} {ret : Option FieldType} {rm : Room} {av : List Value} {g : GG} {A : Nat → Prop} {M : MM} {Qc : Array Value → State → Outcome → State → Prop} {XC : String → State → State → Prop} {mc ms : Nat} (own : String) (hown : y.cls = own) (hy : plainName y.cls = true) (hlen : (lg_sl av).length ≤ maxL)
    (body : ∀ (p : Program) (e : Env) (s : State) (m : MethodId) (args : Array Value) (below : List Frame) (meth : Method) (c : Code), CallFix p m c cc maxL s args lw_all own → meth.sig.returnType = ret → meth.locks = false → meth.name = y.name → amb g A s s.heap → (∀ q : Nat, s.heap.size ≤ q → A q) → (∀ x ∈ c.exceptionTable.toList, False) → ∀ (H : Heap) (locs : List Loc), mW g.1 A M H → va_S A s.heap H locs →
      ∀ ls : Array Slot, lv_has ls maxL (lv_args 0 av) → W p l e rm s m args below meth c H locs 0 0 (vx_MQ below Qc XC args s mc ms A) (F0 m 0 ls [])) : vx_Met l y (ws_ y cc maxL ret) rm (va_Pc av (mPre g A M)) Qc XC mc ms A := by
  refine vx_ofW (cc := cc) (maxL := maxL) (ret := ret) hy rfl ?_
  intro p e s m args below meth c s₁ B hml ht hv
  obtain ⟨rfl, hE, hM, hA⟩ := hv
  have hts := atoms_spec (ws := ws_ y cc maxL ret) B.pre
  have hts : ∀ w ∈ lw_all, w.before _ s = true := fun w h => hts w (List.mem_cons_of_mem _ h)
  have how : s.vm.findClass y.cls = some m.cls := findClass_of_methodNamed B.named
  rw [hown] at how
  have hl := lv_entry av (n := maxL) hlen
  rw [lg_entry_eq]
  exact body p e s m _ below meth c ⟨B.exec, B.bytes, hml, how, hts⟩ B.returns B.notSynchronized (name_of_methodNamed B.named B.method).1 hE hA ht s.heap [] hM va_S.rf _ hl
section MT
variable {p : Program} {l : Launch} {e : Env} {R : Room} {s : State} {m : MethodId} {args : Array Value} {below : List Frame} {meth : Method} {c : Code} {H : Heap} {locs : List Loc} {cells slots : Nat} {Q : State → Prop}
variable {cc bytes : ByteArray} {pc mc ms n nL maxL index ci : Nat} {ls : Array Slot} {rest st As : List Value} {g : GG} {A : Nat → Prop} {a b : Nat} {M M' : MM} {y : MethodName} {ret : Option FieldType} {ws Ts : List Cond} {rm : Room} {own C : String} {Qc : Array Value → State → Outcome → State → Prop} {E0 : String} {XC : String → State → State → Prop}
theorem m_xV (S : CallFix p m c cc nL s args Ts own) (hMet : vx_Met l y ws rm (va_Pc (.ref b :: As) (mPre g A M)) Qc XC mc ms A) (cw : CallW R s args own C index y bytes maxL ret ws rm mc ms n) (hE : amb g A s s.heap) (hA : ∀ q : Nat, s.heap.size ≤ q → A q) (hM : mW g.1 A M H) (hS : va_S A s.heap H locs) (k0 n0 : Nat) {T : u_T} {N : Nat} {fs : List Value} (he : M k0 n0 = some (b, .inr (ci, fs))) (hc : clW[ci]? = some (C, T, N))
    (hn : As.length = n) (hsize : ls.size = nL) (hst : st = As.reverse ++ .ref b :: rest) (hW : (rest.map fun v => v.category).sum ≤ 8) (hdg : decode cc pc = .ok (.invokevirtual index, 3)) (hf : cells + mc ≤ R.cells ∧ slots + ms ≤ R.slots) :
    vx_Run p l e R s m args below meth c H locs cells slots mc ms (F0 m pc ls st) rest (Qc (Value.ref b :: As).toArray) XC A :=
  vx_runV S hMet cw ⟨mPre_blind _, m_recv hE hM he hc, mPre_at hE hA hM hS _⟩ rfl hn hsize hst (lv_room hW) hdg hf
theorem m_xS (S : CallFix p m c cc nL s args Ts own) (hMet : vx_Met l y ws rm (va_Pc As (mPre g A M)) Qc XC mc ms A) (cw : CallB R s args own index y bytes maxL ret ws rm mc ms n ∧ (Cond.static y).before args s = true) (hE : amb g A s s.heap) (hA : ∀ q : Nat, s.heap.size ≤ q → A q) (hM : mW g.1 A M H) (hS : va_S A s.heap H locs)
    (hn : As.length = n) (hsize : ls.size = nL) (hst : st = As.reverse ++ rest) (hW : (rest.map fun v => v.category).sum ≤ 8) (hdg : decode cc pc = .ok (.invokestatic index, 3)) (hf : cells + mc ≤ R.cells ∧ slots + ms ≤ R.slots) :
    vx_Run p l e R s m args below meth c H locs cells slots mc ms (F0 m pc ls st) rest (Qc As.toArray) XC A :=
  vx_runS S hMet cw ⟨mPre_blind _, mPre_at hE hA hM hS _⟩ rfl hn hsize hst (lv_room hW) hdg hf
/-- a callee throws, and it is not caught here -/
theorem m_xend {k n : Nat} {aa : Array Value} (hr : vx_Run p l e R s m args below meth c H locs cells slots mc ms (F0 m pc ls st) rest (pNo aa) (mX g A E0 M') A) (ht : ∀ x ∈ c.exceptionTable.toList, False) (hlk : meth.locks = false) (hS : va_S A s.heap H locs) (h1 : cells + mc ≤ k) (h2 : slots + ms ≤ n) :
    W p l e R s m args below meth c H locs cells slots (vx_MQ below Qc (mX g A E0 M') args s k n A) (F0 m pc ls st) := by
  intro T hT X
  rcases hr T hT X with ⟨v, st₀, t, T', L, h0, X', hL, e1, e2, hf, -⟩ | ⟨q, st₀, t, T', L, E, ce, h0, X', hL, e1, e2, ⟨u, -, ⟨hE0, hM⟩, hF⟩, hce, hcv, hcl, stp⟩
  · exact hf.elim
  · obtain ⟨k1, k2, k3⟩ := vx_keep h0 e1 hS (fun _ _ h => h) (fun _ h => h) hL hF
    obtain ⟨t2, a1, b1⟩ := vx_out (H := T'.heap) (pc := pc) (ls := ls) (rest := rest) (Qc := Qc) (XC := mX g A E0 M') (mc := k) (ms := n) (free := A) (fun x hx => (ht x hx).elim) hlk (by rw [e1]; exact hce) hcv hcl (fun t9 ht9 _ => ⟨(), trivial, ⟨hE0, by rw [ht9, e1]; exact hM⟩, k3.F ht9⟩) k3.2.2 h1 h2 T' rfl X'
    exact ⟨t2, stp.trans a1, b1⟩
theorem m_throw {cls text : String} {ik is ic sa : Nat} (S : CallFix p m c cc nL s args lw_all "Wakeground") (hlt : l.stackTraces = false) (hE : amb g A s s.heap) (hM : mW g.1 A M H) (hS : va_S A s.heap H locs) (ht : ∀ x ∈ c.exceptionTable.toList, False) (hlk : meth.locks = false) (hl : ls.size = nL) (hcls : Bundle.fit cls = true)
    (hk : Cond.classLink "Wakeground" ik cls ∈ lw_all) (hini : Cond.initialized cls ∈ lw_all) (hstr : vk_R "Wakeground" is text sa s) (hat : ∀ w ∈ vx_atS "Wakeground" ic cls ["java/lang/RuntimeException", "java/lang/Exception"], w.before args s = true)
    (hgood : ∀ w ∈ Cond.classLink "Wakeground" ik cls :: Cond.initialized cls :: vx_atS "Wakeground" ic cls ["java/lang/RuntimeException", "java/lang/Exception"], vx_ot w = true)
    (d0 : decode cc pc = .ok (.new ik, 3)) (d3 : decode cc (pc + 3) = .ok (.dup, 1)) (d4 : decode cc (pc + 4) = .ok (.ldc is, 2)) (d6 : decode cc (pc + 6) = .ok (.invokespecial ic, 3)) (d9 : decode cc (pc + 9) = .ok (.athrow, 1))
    (hR1 : 6 ≤ R.frames) (hR2 : 82 ≤ R.locals) (hR3 : 1 ≤ R.cells) (hR4 : 6 ≤ R.slots) :
    W p l e R s m args below meth c H locs 0 0 (vx_MQ below Qc (mX g A cls M) args s 1 6 A) (F0 m pc ls []) := by
  refine vx_throwS (names := ["java/lang/RuntimeException", "java/lang/Exception"]) S.1 S.2.1 hlt S.2.2.2.1 hcls (by decide +kernel) (S.2.2.2.2 _ hk) (S.2.2.2.2 _ hini) hstr hat hgood hE.2.1.2.2.2.2.2.2.2.2.2.2.1 hE.2.1.2.2.2.2.2.2.2.2.2.2.2 hS (hl.trans S.2.2.1.symm) d0 d3 d4 d6 d9 (fun x hx => (ht x hx).elim) (by show 5 < _; omega) (by show 0 + 82 ≤ _; omega) (by omega) (by omega) hlk ?_ hS.2.2 (Nat.le_refl _) (Nat.le_refl _)
  intro t _ h1 h2
  exact ⟨(), trivial, ⟨rfl, hM.kept (fun k n q hk => h2 _ (hM.lt hk))⟩, Nat.le_trans hS.1 h1, fun q hq hA => (h2 q (Nat.lt_of_lt_of_le hq hS.1)).trans (hS.2.1 q hq hA)⟩
end MT
theorem hat_known {args : Array Value} {s : State} {g : GG} {A : Nat → Prop} {H : Heap} (hts : ∀ w ∈ lw_all, w.before args s = true) (hE : amb g A s H) : ∀ w ∈ vx_atS "Wakeground" 54 "java/lang/IndexOutOfBoundsException" ["java/lang/RuntimeException", "java/lang/Exception"], w.before args s = true := by
  refine vx_hat (B := [.declares ⟨"java/lang/RuntimeException", "<init>", "(Ljava/lang/String;)V"⟩, .declares ⟨"java/lang/Exception", "<init>", "(Ljava/lang/String;)V"⟩, .declares ⟨"java/lang/Throwable", "<init>", "(Ljava/lang/String;)V"⟩, .castable "java/lang/IndexOutOfBoundsException" "java/lang/IndexOutOfBoundsException"]) (fun w hw => hts w (lw_in ((vx_atS "Wakeground" 54 "java/lang/IndexOutOfBoundsException" ["java/lang/RuntimeException", "java/lang/Exception"]).filter goodWord) [42, 298, 307, 313, 316, 318, 299, 300, 71, 72, 301, 306, 314, 331, 288, 332, 290, 333, 292, 302, 304, 294, 388, 389, 330, 294, 379, 380, 381, 382, 382, 383, 384, 385, 385, 386, 387, 388, 436, 427, 429, 312, 430, 431, 432, 433, 297, 296, 434] (by decide +kernel) (by decide +kernel) w hw)) (by decide +kernel) ?_
  exact vx_c (va_Nw.use rfl (hE.nw 14 rfl)) (vx_c (va_Nw.use rfl (hE.nw 16 rfl)) (vx_c (va_Nw.use rfl (hE.nw 18 rfl)) (vx_c (va_Nw.use rfl (hE.nw 3 rfl)) vx_n)))
theorem hgood_known : ∀ w ∈ Cond.classLink "Wakeground" 50 "java/lang/IndexOutOfBoundsException" :: Cond.initialized "java/lang/IndexOutOfBoundsException" :: vx_atS "Wakeground" 54 "java/lang/IndexOutOfBoundsException" ["java/lang/RuntimeException", "java/lang/Exception"], vx_ot w = true := by decide +kernel
theorem hat_inRange {args : Array Value} {s : State} {g : GG} {A : Nat → Prop} {H : Heap} (hts : ∀ w ∈ lw_all, w.before args s = true) (hE : amb g A s H) : ∀ w ∈ vx_atS "Wakeground" 61 "java/lang/IllegalArgumentException" ["java/lang/RuntimeException", "java/lang/Exception"], w.before args s = true := by
  refine vx_hat (B := [.declares ⟨"java/lang/RuntimeException", "<init>", "(Ljava/lang/String;)V"⟩, .declares ⟨"java/lang/Exception", "<init>", "(Ljava/lang/String;)V"⟩, .declares ⟨"java/lang/Throwable", "<init>", "(Ljava/lang/String;)V"⟩, .castable "java/lang/IllegalArgumentException" "java/lang/IllegalArgumentException"]) (fun w hw => hts w (lw_in ((vx_atS "Wakeground" 61 "java/lang/IllegalArgumentException" ["java/lang/RuntimeException", "java/lang/Exception"]).filter goodWord) [42, 298, 307, 313, 316, 318, 299, 300, 71, 72, 301, 306, 314, 331, 288, 332, 290, 333, 292, 302, 304, 294, 388, 389, 330, 294, 453, 454, 455, 382, 382, 383, 384, 385, 385, 386, 387, 388, 452, 443, 445, 310, 446, 447, 448, 449, 297, 296, 450] (by decide +kernel) (by decide +kernel) w hw)) (by decide +kernel) ?_
  exact vx_c (va_Nw.use rfl (hE.nw 14 rfl)) (vx_c (va_Nw.use rfl (hE.nw 16 rfl)) (vx_c (va_Nw.use rfl (hE.nw 18 rfl)) (vx_c (va_Nw.use rfl (hE.nw 4 rfl)) vx_n)))
theorem hgood_inRange : ∀ w ∈ Cond.classLink "Wakeground" 57 "java/lang/IllegalArgumentException" :: Cond.initialized "java/lang/IllegalArgumentException" :: vx_atS "Wakeground" 61 "java/lang/IllegalArgumentException" ["java/lang/RuntimeException", "java/lang/Exception"], vx_ot w = true := by decide +kernel
theorem hat_allowed {args : Array Value} {s : State} {g : GG} {A : Nat → Prop} {H : Heap} (hts : ∀ w ∈ lw_all, w.before args s = true) (hE : amb g A s H) : ∀ w ∈ vx_atS "Wakeground" 66 "java/lang/IllegalStateException" ["java/lang/RuntimeException", "java/lang/Exception"], w.before args s = true := by
  refine vx_hat (B := [.declares ⟨"java/lang/RuntimeException", "<init>", "(Ljava/lang/String;)V"⟩, .declares ⟨"java/lang/Exception", "<init>", "(Ljava/lang/String;)V"⟩, .declares ⟨"java/lang/Throwable", "<init>", "(Ljava/lang/String;)V"⟩, .castable "java/lang/IllegalStateException" "java/lang/IllegalStateException"]) (fun w hw => hts w (lw_in ((vx_atS "Wakeground" 66 "java/lang/IllegalStateException" ["java/lang/RuntimeException", "java/lang/Exception"]).filter goodWord) [42, 298, 307, 313, 316, 318, 299, 300, 71, 72, 301, 306, 314, 331, 288, 332, 290, 333, 292, 302, 304, 294, 388, 389, 330, 294, 487, 488, 489, 382, 382, 383, 384, 385, 385, 386, 387, 388, 486, 477, 479, 311, 480, 481, 482, 483, 297, 296, 484] (by decide +kernel) (by decide +kernel) w hw)) (by decide +kernel) ?_
  exact vx_c (va_Nw.use rfl (hE.nw 14 rfl)) (vx_c (va_Nw.use rfl (hE.nw 16 rfl)) (vx_c (va_Nw.use rfl (hE.nw 18 rfl)) (vx_c (va_Nw.use rfl (hE.nw 5 rfl)) vx_n)))
theorem hgood_allowed : ∀ w ∈ Cond.classLink "Wakeground" 62 "java/lang/IllegalStateException" :: Cond.initialized "java/lang/IllegalStateException" :: vx_atS "Wakeground" 66 "java/lang/IllegalStateException" ["java/lang/RuntimeException", "java/lang/Exception"], vx_ot w = true := by decide +kernel
abbrev rm_X1_isIn : Room := { frames := 0, cells := 0, slots := 0, locals := 0 }
set_option maxHeartbeats 400000 in
theorem k_X1_isIn (l : Launch) (g : GG) (A : Nat → Prop) (M : MM) (a0 a1 a2 : Int32) : Met l yX1_isIn (ws_ yX1_isIn cX1_isIn 3 (some .boolean)) rm_X1_isIn (va_Pc [.int a0, .int a1, .int a2] (mPre g A (M))) (pQi g A (inF a0 a1 a2) M) 0 0 A := by
  refine m_start RX1 rfl (by decide) (Nat.le_of_ble_eq_true rfl) ?_
  intro p e s m args below meth c hcf hr hlk hnm hE hA H locs hM hS ls hl
  have hx := hcf.1
  have hb := hcf.2.1
  have hml := hcf.2.2.1
  have hown := hcf.2.2.2.1
  have hts := hcf.2.2.2.2
  have hl : lv_has ls 3 [(0, .int a0), (1, .int a1), (2, .int a2)] := hl
  generalize hQ : MQ below (pQi g A (inF a0 a1 a2) M) args s 0 0 A = Q
  refine lv_iload_n hx hb dX1_isIn_0 rfl (lv_at hl 0 rfl) ?_
  refine lv_iload_n hx hb dX1_isIn_1 rfl (lv_at hl 1 rfl) ?_
  have J_5 : ∀ (v_3 : Int32), ((if a0 < a1 then 0 else (if a2 < a0 then 0 else 1)) = v_3) → W p l e rm_X1_isIn s m args below meth c H locs 0 0 Q (F0 m 15 ls [.int v_3]) := by
    intro v_3 ev_4
    rw [← hQ]
    exact m_iret () hx hb hr (by subst ev_4; first | rfl | exact inF_nar _ _ _) hlk hM hS (by subst ev_4; first | rfl | (unfold inF; rfl)) (by first | decide | omega) (by first | decide | omega) dX1_isIn_15
  refine lv_icmp_lt (tgt := 14) hx hb dX1_isIn_2 (by decide) (fun c_1 => ?_) (fun c_1 => ?_)
  · refine lv_iconst (v := 0) hx hb dX1_isIn_14 (by decide) ?_
    exact J_5 _ (by first | (rw [if_pos c_1]) | rfl | (simp only [c_1, if_true, if_false, ite_true, ite_false, not_false_eq_true, reduceIte]))
  · refine lv_iload_n hx hb dX1_isIn_5 rfl (lv_at hl 0 rfl) ?_
    refine lv_iload_n hx hb dX1_isIn_6 rfl (lv_at hl 2 rfl) ?_
    refine lv_icmp_gt (tgt := 14) hx hb dX1_isIn_7 (by decide) (fun c_2 => ?_) (fun c_2 => ?_)
    · refine lv_iconst (v := 0) hx hb dX1_isIn_14 (by decide) ?_
      exact J_5 _ (by first | (rw [if_neg c_1, if_pos c_2]) | rfl | (simp only [c_1, c_2, if_true, if_false, ite_true, ite_false, not_false_eq_true, reduceIte]))
    · refine lv_iconst (v := 1) hx hb dX1_isIn_10 (by decide) ?_
      refine lv_goto (tgt := 15) hx hb dX1_isIn_11 (by decide) ?_
      exact J_5 _ (by first | (rw [if_neg c_1, if_neg c_2]) | rfl | (simp only [c_1, c_2, if_true, if_false, ite_true, ite_false, not_false_eq_true, reduceIte]))

abbrev rm_X1_known_ok : Room := { frames := 0, cells := 0, slots := 0, locals := 0 }
set_option maxHeartbeats 400000 in
theorem k_X1_known_ok (l : Launch) (g : GG) (A : Nat → Prop) (M : MM)  : Met l yX1_known (ws_ yX1_known cX1_known 1 none) rm_X1_known_ok (va_Pc [.int 1] (mPre g A (M))) (pQv g A M) 0 0 A := by
  refine m_start RX1 rfl (by decide) (Nat.le_of_ble_eq_true rfl) ?_
  intro p e s m args below meth c hcf hr hlk hnm hE hA H locs hM hS ls hl
  have hx := hcf.1
  have hb := hcf.2.1
  have hml := hcf.2.2.1
  have hown := hcf.2.2.2.1
  have hts := hcf.2.2.2.2
  have hl : lv_has ls 1 [(0, .int 1)] := hl
  generalize hQ : MQ below (pQv g A M) args s 0 0 A = Q
  refine lv_iload_n hx hb dX1_known_0 rfl (lv_at hl 0 rfl) ?_
  refine lv_if_ne (tgt := 14) hx hb dX1_known_1 (by decide) (fun _ => ?_) (fun c9 => absurd c9 (by decide))
  rw [← hQ]
  exact m_vret () hx hb hr hlk hM hS trivial (by first | decide | omega) (by first | decide | omega) dX1_known_14

abbrev rm_X1_known_no : Room := { frames := 6, cells := 1, slots := 6, locals := 82 }
set_option maxHeartbeats 400000 in
theorem k_X1_known_no (l : Launch) (g : GG) (A : Nat → Prop) (hlt : l.stackTraces = false) (M : MM)  : vx_Met l yX1_known (ws_ yX1_known cX1_known 1 none) rm_X1_known_no (va_Pc [.int 0] (mPre g A (M))) pNo (mX g A "java/lang/IndexOutOfBoundsException" (M)) 1 6 A := by
  refine m_startX RX1 rfl (by decide) (Nat.le_of_ble_eq_true rfl) ?_
  intro p e s m args below meth c hcf hr hlk hnm hE hA ht H locs hM hS ls hl
  have hx := hcf.1
  have hb := hcf.2.1
  have hml := hcf.2.2.1
  have hown := hcf.2.2.2.1
  have hts := hcf.2.2.2.2
  have hl : lv_has ls 1 [(0, .int 0)] := hl
  generalize hQ : vx_MQ below pNo (mX g A "java/lang/IndexOutOfBoundsException" (M)) args s 1 6 A = Q
  refine lv_iload_n hx hb dX1_known_0 rfl (lv_at hl 0 rfl) ?_
  refine lv_if_ne (tgt := 14) hx hb dX1_known_1 (by decide) (fun c9 => absurd (by decide) c9) (fun _ => ?_)
  rw [← hQ]
  exact m_throw hcf hlt hE hM hS ht hlk hl.1 (by decide +kernel) q426 q45 hE.2.2.1.1 (hat_known hts hE) hgood_known dX1_known_4 dX1_known_7 dX1_known_8 dX1_known_10 dX1_known_13 (Nat.le_of_ble_eq_true rfl) (Nat.le_of_ble_eq_true rfl) (Nat.le_of_ble_eq_true rfl) (Nat.le_of_ble_eq_true rfl)

abbrev rm_X1_inRange_ok : Room := { frames := 0, cells := 0, slots := 0, locals := 0 }
set_option maxHeartbeats 400000 in
theorem k_X1_inRange_ok (l : Launch) (g : GG) (A : Nat → Prop) (M : MM)  : Met l yX1_inRange (ws_ yX1_inRange cX1_inRange 1 none) rm_X1_inRange_ok (va_Pc [.int 1] (mPre g A (M))) (pQv g A M) 0 0 A := by
  refine m_start RX1 rfl (by decide) (Nat.le_of_ble_eq_true rfl) ?_
  intro p e s m args below meth c hcf hr hlk hnm hE hA H locs hM hS ls hl
  have hx := hcf.1
  have hb := hcf.2.1
  have hml := hcf.2.2.1
  have hown := hcf.2.2.2.1
  have hts := hcf.2.2.2.2
  have hl : lv_has ls 1 [(0, .int 1)] := hl
  generalize hQ : MQ below (pQv g A M) args s 0 0 A = Q
  refine lv_iload_n hx hb dX1_inRange_0 rfl (lv_at hl 0 rfl) ?_
  refine lv_if_ne (tgt := 14) hx hb dX1_inRange_1 (by decide) (fun _ => ?_) (fun c9 => absurd c9 (by decide))
  rw [← hQ]
  exact m_vret () hx hb hr hlk hM hS trivial (by first | decide | omega) (by first | decide | omega) dX1_inRange_14

abbrev rm_X1_inRange_no : Room := { frames := 6, cells := 1, slots := 6, locals := 82 }
set_option maxHeartbeats 400000 in
theorem k_X1_inRange_no (l : Launch) (g : GG) (A : Nat → Prop) (hlt : l.stackTraces = false) (M : MM)  : vx_Met l yX1_inRange (ws_ yX1_inRange cX1_inRange 1 none) rm_X1_inRange_no (va_Pc [.int 0] (mPre g A (M))) pNo (mX g A "java/lang/IllegalArgumentException" (M)) 1 6 A := by
  refine m_startX RX1 rfl (by decide) (Nat.le_of_ble_eq_true rfl) ?_
  intro p e s m args below meth c hcf hr hlk hnm hE hA ht H locs hM hS ls hl
  have hx := hcf.1
  have hb := hcf.2.1
  have hml := hcf.2.2.1
  have hown := hcf.2.2.2.1
  have hts := hcf.2.2.2.2
  have hl : lv_has ls 1 [(0, .int 0)] := hl
  generalize hQ : vx_MQ below pNo (mX g A "java/lang/IllegalArgumentException" (M)) args s 1 6 A = Q
  refine lv_iload_n hx hb dX1_inRange_0 rfl (lv_at hl 0 rfl) ?_
  refine lv_if_ne (tgt := 14) hx hb dX1_inRange_1 (by decide) (fun c9 => absurd (by decide) c9) (fun _ => ?_)
  rw [← hQ]
  exact m_throw hcf hlt hE hM hS ht hlk hl.1 (by decide +kernel) q442 q48 hE.2.2.1.2.1 (hat_inRange hts hE) hgood_inRange dX1_inRange_4 dX1_inRange_7 dX1_inRange_8 dX1_inRange_10 dX1_inRange_13 (Nat.le_of_ble_eq_true rfl) (Nat.le_of_ble_eq_true rfl) (Nat.le_of_ble_eq_true rfl) (Nat.le_of_ble_eq_true rfl)

abbrev rm_X1_allowed_ok : Room := { frames := 0, cells := 0, slots := 0, locals := 0 }
set_option maxHeartbeats 400000 in
theorem k_X1_allowed_ok (l : Launch) (g : GG) (A : Nat → Prop) (M : MM)  : Met l yX1_allowed (ws_ yX1_allowed cX1_allowed 1 none) rm_X1_allowed_ok (va_Pc [.int 1] (mPre g A (M))) (pQv g A M) 0 0 A := by
  refine m_start RX1 rfl (by decide) (Nat.le_of_ble_eq_true rfl) ?_
  intro p e s m args below meth c hcf hr hlk hnm hE hA H locs hM hS ls hl
  have hx := hcf.1
  have hb := hcf.2.1
  have hml := hcf.2.2.1
  have hown := hcf.2.2.2.1
  have hts := hcf.2.2.2.2
  have hl : lv_has ls 1 [(0, .int 1)] := hl
  generalize hQ : MQ below (pQv g A M) args s 0 0 A = Q
  refine lv_iload_n hx hb dX1_allowed_0 rfl (lv_at hl 0 rfl) ?_
  refine lv_if_ne (tgt := 14) hx hb dX1_allowed_1 (by decide) (fun _ => ?_) (fun c9 => absurd c9 (by decide))
  rw [← hQ]
  exact m_vret () hx hb hr hlk hM hS trivial (by first | decide | omega) (by first | decide | omega) dX1_allowed_14

abbrev rm_X1_allowed_no : Room := { frames := 6, cells := 1, slots := 6, locals := 82 }
set_option maxHeartbeats 400000 in
theorem k_X1_allowed_no (l : Launch) (g : GG) (A : Nat → Prop) (hlt : l.stackTraces = false) (M : MM)  : vx_Met l yX1_allowed (ws_ yX1_allowed cX1_allowed 1 none) rm_X1_allowed_no (va_Pc [.int 0] (mPre g A (M))) pNo (mX g A "java/lang/IllegalStateException" (M)) 1 6 A := by
  refine m_startX RX1 rfl (by decide) (Nat.le_of_ble_eq_true rfl) ?_
  intro p e s m args below meth c hcf hr hlk hnm hE hA ht H locs hM hS ls hl
  have hx := hcf.1
  have hb := hcf.2.1
  have hml := hcf.2.2.1
  have hown := hcf.2.2.2.1
  have hts := hcf.2.2.2.2
  have hl : lv_has ls 1 [(0, .int 0)] := hl
  generalize hQ : vx_MQ below pNo (mX g A "java/lang/IllegalStateException" (M)) args s 1 6 A = Q
  refine lv_iload_n hx hb dX1_allowed_0 rfl (lv_at hl 0 rfl) ?_
  refine lv_if_ne (tgt := 14) hx hb dX1_allowed_1 (by decide) (fun c9 => absurd (by decide) c9) (fun _ => ?_)
  rw [← hQ]
  exact m_throw hcf hlt hE hM hS ht hlk hl.1 (by decide +kernel) q476 q49 hE.2.2.1.2.2 (hat_allowed hts hE) hgood_allowed dX1_allowed_4 dX1_allowed_7 dX1_allowed_8 dX1_allowed_10 dX1_allowed_13 (Nat.le_of_ble_eq_true rfl) (Nat.le_of_ble_eq_true rfl) (Nat.le_of_ble_eq_true rfl) (Nat.le_of_ble_eq_true rfl)

abbrev rm_X1_cellAt_ok : Room := { frames := 1, cells := 0, slots := 0, locals := 22 }
set_option maxHeartbeats 400000 in
theorem k_X1_cellAt_ok (l : Launch) (g : GG) (A : Nat → Prop) (ad : Nat → Nat → Nat) (Mx : MM) (x : St) (k : Nat) (hk : k < 25) : Met l yX1_cellAt (ws_ yX1_cellAt cX1_cellAt 2 (some (.object "Wakeground$Cell"))) rm_X1_cellAt_ok (va_Pc [.ref (ad 0 0), .int (nI k)] (mPre g A (cwM g ad Mx x))) (pQr g A (ad 2 k) (cwM g ad Mx x)) 0 0 A := by
  refine m_start RX1 rfl (by decide) (Nat.le_of_ble_eq_true rfl) ?_
  intro p e s m args below meth c hcf hr hlk hnm hE hA H locs hM hS ls hl
  have hx := hcf.1
  have hb := hcf.2.1
  have hml := hcf.2.2.1
  have hown := hcf.2.2.2.1
  have hts := hcf.2.2.2.2
  have hl : lv_has ls 2 [(0, .ref (ad 0 0)), (1, .int (nI k))] := hl
  generalize hQ : MQ below (pQr g A (ad 2 k) (cwM g ad Mx x)) args s 0 0 A = Q
  refine lv_iload_n hx hb dX1_cellAt_0 rfl (lv_at hl 1 rfl) ?_
  refine lv_iconst (v := 0) hx hb dX1_cellAt_1 (by decide) ?_
  refine lv_bipush (v := 24) hx hb dX1_cellAt_2 (by decide) ?_
  refine m_cpi (m_rS (As := [.int (nI k), .int 0, .int 24]) (rest := []) hcf (k_X1_isIn l g A (cwM g ad Mx x) (nI k) 0 24) (va_cwS 3 hts (lw_S q420 q421 q35 q422) rfl rfl rfl (by decide +kernel) ⟨Nat.le_of_ble_eq_true rfl, Nat.le_of_ble_eq_true rfl⟩) hE hA hM hS rfl hl.1 rfl (Nat.le_of_ble_eq_true rfl) dX1_cellAt_4 ⟨Nat.le_of_ble_eq_true rfl, Nat.le_of_ble_eq_true rfl⟩) hS (fun H locs hM hS => ?_)
  refine m_topI (y := 1) (inF_cell hk) ?_
  refine m_cpv (m_rS (As := [.int 1]) (rest := []) hcf (k_X1_known_ok l g A (cwM g ad Mx x)) (va_cwS 1 hts (lw_S q423 q424 q35 q425) rfl rfl rfl (by decide +kernel) ⟨Nat.le_of_ble_eq_true rfl, Nat.le_of_ble_eq_true rfl⟩) hE hA hM hS rfl hl.1 rfl (Nat.le_of_ble_eq_true rfl) dX1_cellAt_7 ⟨Nat.le_of_ble_eq_true rfl, Nat.le_of_ble_eq_true rfl⟩) hS (fun H locs hM hS => ?_)
  refine lv_aload_n hx hb dX1_cellAt_10 rfl (lv_at hl 0 rfl) ?_
  refine m_get hx hb hts in_X1 hown hE hM 0 0 cw_0 (ci := 0) rfl 0 (by decide) (hts _ q178) (fun _ h9 => h9) rfl dX1_cellAt_11 ?_
  refine lv_iload_n hx hb dX1_cellAt_14 rfl (lv_at hl 1 rfl) ?_
  refine m_aald hx hb hE hM 1 0 3 cw_1 rfl k (by omega) (by decide) rfl rfl dX1_cellAt_15 ?_
  rw [← hQ]
  exact m_aret () hx hb hr (by first | exact Or.inl ⟨_, rfl⟩ | exact Or.inr ⟨_, rfl⟩) hlk hM hS trivial rfl (by first | decide | omega) (by first | decide | omega) dX1_cellAt_16

abbrev rm_X1_cellAt_no : Room := { frames := 7, cells := 1, slots := 6, locals := 102 }
set_option maxHeartbeats 400000 in
theorem k_X1_cellAt_no (l : Launch) (g : GG) (A : Nat → Prop) (hlt : l.stackTraces = false) (ad : Nat → Nat → Nat) (Mx : MM) (x : St) (a0 : Int32) (h0 : inF a0 0 24 = 0) : vx_Met l yX1_cellAt (ws_ yX1_cellAt cX1_cellAt 2 (some (.object "Wakeground$Cell"))) rm_X1_cellAt_no (va_Pc [.ref (ad 0 0), .int a0] (mPre g A (cwM g ad Mx x))) pNo (mX g A "java/lang/IndexOutOfBoundsException" (cwM g ad Mx x)) 1 6 A := by
  refine m_startX RX1 rfl (by decide) (Nat.le_of_ble_eq_true rfl) ?_
  intro p e s m args below meth c hcf hr hlk hnm hE hA ht H locs hM hS ls hl
  have hx := hcf.1
  have hb := hcf.2.1
  have hml := hcf.2.2.1
  have hown := hcf.2.2.2.1
  have hts := hcf.2.2.2.2
  have hl : lv_has ls 2 [(0, .ref (ad 0 0)), (1, .int a0)] := hl
  generalize hQ : vx_MQ below pNo (mX g A "java/lang/IndexOutOfBoundsException" (cwM g ad Mx x)) args s 1 6 A = Q
  refine lv_iload_n hx hb dX1_cellAt_0 rfl (lv_at hl 1 rfl) ?_
  refine lv_iconst (v := 0) hx hb dX1_cellAt_1 (by decide) ?_
  refine lv_bipush (v := 24) hx hb dX1_cellAt_2 (by decide) ?_
  refine m_cpi (m_rS (As := [.int a0, .int 0, .int 24]) (rest := []) hcf (k_X1_isIn l g A (cwM g ad Mx x) a0 0 24) (va_cwS 3 hts (lw_S q420 q421 q35 q422) rfl rfl rfl (by decide +kernel) ⟨Nat.le_of_ble_eq_true rfl, Nat.le_of_ble_eq_true rfl⟩) hE hA hM hS rfl hl.1 rfl (Nat.le_of_ble_eq_true rfl) dX1_cellAt_4 ⟨Nat.le_of_ble_eq_true rfl, Nat.le_of_ble_eq_true rfl⟩) hS (fun H locs hM hS => ?_)
  refine m_topI (y := 0) (h0) ?_
  rw [← hQ]
  exact m_xend (m_xS (As := [.int 0]) (rest := []) hcf (k_X1_known_no l g A hlt (cwM g ad Mx x)) (va_cwS 1 hts (lw_S q423 q424 q35 q425) rfl rfl rfl (by decide +kernel) ⟨Nat.le_of_ble_eq_true rfl, Nat.le_of_ble_eq_true rfl⟩) hE hA hM hS rfl hl.1 rfl (Nat.le_of_ble_eq_true rfl) dX1_cellAt_7 ⟨Nat.le_of_ble_eq_true rfl, Nat.le_of_ble_eq_true rfl⟩) ht hlk hS (Nat.le_of_ble_eq_true rfl) (Nat.le_of_ble_eq_true rfl)

abbrev rm_X1_layerAt_ok : Room := { frames := 2, cells := 0, slots := 0, locals := 43 }
set_option maxHeartbeats 400000 in
theorem k_X1_layerAt_ok (l : Launch) (g : GG) (A : Nat → Prop) (ad : Nat → Nat → Nat) (Mx : MM) (x : St) (k n : Nat) (hk : k < 25) (hn : n < 5) : Met l yX1_layerAt (ws_ yX1_layerAt cX1_layerAt 4 (some (.object "Wakeground$Layer"))) rm_X1_layerAt_ok (va_Pc [.ref (ad 0 0), .int (nI k), .int (nI n)] (mPre g A (cwM g ad Mx x))) (pQr g A (ad 4 (5 * k + n)) (cwM g ad Mx x)) 0 0 A := by
  refine m_start RX1 rfl (by decide) (Nat.le_of_ble_eq_true rfl) ?_
  intro p e s m args below meth c hcf hr hlk hnm hE hA H locs hM hS ls hl
  have hx := hcf.1
  have hb := hcf.2.1
  have hml := hcf.2.2.1
  have hown := hcf.2.2.2.1
  have hts := hcf.2.2.2.2
  have hl : lv_has ls 4 [(0, .ref (ad 0 0)), (1, .int (nI k)), (2, .int (nI n))] := hl
  generalize hQ : MQ below (pQr g A (ad 4 (5 * k + n)) (cwM g ad Mx x)) args s 0 0 A = Q
  refine lv_aload_n hx hb dX1_layerAt_0 rfl (lv_at hl 0 rfl) ?_
  refine lv_iload_n hx hb dX1_layerAt_1 rfl (lv_at hl 1 rfl) ?_
  refine m_cpr (m_rV (As := [.int (nI k)]) (rest := []) hcf (k_X1_cellAt_ok l g A ad Mx x k (by omega)) (cwV 1 hts (lw_V q416 q418 qs7 q35 q419) rfl rfl rfl (by decide +kernel) ⟨Nat.le_of_ble_eq_true rfl, Nat.le_of_ble_eq_true rfl⟩) hE hA hM hS 0 0 cw_0 (ci := 0) rfl rfl hl.1 rfl (Nat.le_of_ble_eq_true rfl) dX1_layerAt_2 ⟨Nat.le_of_ble_eq_true rfl, Nat.le_of_ble_eq_true rfl⟩) hS (fun H locs hM hS => ?_)
  refine lv_astore_n (lv' := [(3, .ref (ad 2 k)), (0, .ref (ad 0 0)), (1, .int (nI k)), (2, .int (nI n))]) hx hb dX1_layerAt_5 rfl hl (by decide) rfl (fun ls hl => ?_)
  refine lv_iload_n hx hb dX1_layerAt_6 rfl (lv_at hl 3 rfl) ?_
  refine lv_iconst (v := 0) hx hb dX1_layerAt_7 (by decide) ?_
  refine lv_iconst (v := 4) hx hb dX1_layerAt_8 (by decide) ?_
  refine m_cpi (m_rS (As := [.int (nI n), .int 0, .int 4]) (rest := []) hcf (k_X1_isIn l g A (cwM g ad Mx x) (nI n) 0 4) (va_cwS 3 hts (lw_S q420 q421 q35 q422) rfl rfl rfl (by decide +kernel) ⟨Nat.le_of_ble_eq_true rfl, Nat.le_of_ble_eq_true rfl⟩) hE hA hM hS rfl hl.1 rfl (Nat.le_of_ble_eq_true rfl) dX1_layerAt_9 ⟨Nat.le_of_ble_eq_true rfl, Nat.le_of_ble_eq_true rfl⟩) hS (fun H locs hM hS => ?_)
  refine m_topI (y := 1) (inF_lay hn) ?_
  refine m_cpv (m_rS (As := [.int 1]) (rest := []) hcf (k_X1_known_ok l g A (cwM g ad Mx x)) (va_cwS 1 hts (lw_S q423 q424 q35 q425) rfl rfl rfl (by decide +kernel) ⟨Nat.le_of_ble_eq_true rfl, Nat.le_of_ble_eq_true rfl⟩) hE hA hM hS rfl hl.1 rfl (Nat.le_of_ble_eq_true rfl) dX1_layerAt_12 ⟨Nat.le_of_ble_eq_true rfl, Nat.le_of_ble_eq_true rfl⟩) hS (fun H locs hM hS => ?_)
  refine lv_aload_n hx hb dX1_layerAt_15 rfl (lv_at hl 0 rfl) ?_
  refine m_get hx hb hts in_X2 hown hE hM 2 k (cw_2 (by omega)) (ci := 2) rfl 1 (by decide) (hts _ q140) (fun _ h9 => h9) rfl dX1_layerAt_16 ?_
  refine lv_iload_n hx hb dX1_layerAt_19 rfl (lv_at hl 3 rfl) ?_
  refine m_aald hx hb hE hM 3 k 4 (cw_3 (by omega)) rfl n (by omega) (by decide) rfl rfl dX1_layerAt_20 ?_
  rw [← hQ]
  exact m_aret () hx hb hr (by first | exact Or.inl ⟨_, rfl⟩ | exact Or.inr ⟨_, rfl⟩) hlk hM hS trivial rfl (by first | decide | omega) (by first | decide | omega) dX1_layerAt_21

abbrev rm_X1_layerAt_n1 : Room := { frames := 8, cells := 1, slots := 6, locals := 123 }
set_option maxHeartbeats 400000 in
theorem k_X1_layerAt_n1 (l : Launch) (g : GG) (A : Nat → Prop) (hlt : l.stackTraces = false) (ad : Nat → Nat → Nat) (Mx : MM) (x : St) (a0 a1 : Int32) (h0 : inF a0 0 24 = 0) : vx_Met l yX1_layerAt (ws_ yX1_layerAt cX1_layerAt 4 (some (.object "Wakeground$Layer"))) rm_X1_layerAt_n1 (va_Pc [.ref (ad 0 0), .int a0, .int a1] (mPre g A (cwM g ad Mx x))) pNo (mX g A "java/lang/IndexOutOfBoundsException" (cwM g ad Mx x)) 1 6 A := by
  refine m_startX RX1 rfl (by decide) (Nat.le_of_ble_eq_true rfl) ?_
  intro p e s m args below meth c hcf hr hlk hnm hE hA ht H locs hM hS ls hl
  have hx := hcf.1
  have hb := hcf.2.1
  have hml := hcf.2.2.1
  have hown := hcf.2.2.2.1
  have hts := hcf.2.2.2.2
  have hl : lv_has ls 4 [(0, .ref (ad 0 0)), (1, .int a0), (2, .int a1)] := hl
  generalize hQ : vx_MQ below pNo (mX g A "java/lang/IndexOutOfBoundsException" (cwM g ad Mx x)) args s 1 6 A = Q
  refine lv_aload_n hx hb dX1_layerAt_0 rfl (lv_at hl 0 rfl) ?_
  refine lv_iload_n hx hb dX1_layerAt_1 rfl (lv_at hl 1 rfl) ?_
  rw [← hQ]
  exact m_xend (m_xV (As := [.int a0]) (rest := []) hcf (k_X1_cellAt_no l g A hlt ad Mx x a0 h0) (cwV 1 hts (lw_V q416 q418 qs7 q35 q419) rfl rfl rfl (by decide +kernel) ⟨Nat.le_of_ble_eq_true rfl, Nat.le_of_ble_eq_true rfl⟩) hE hA hM hS 0 0 cw_0 (ci := 0) rfl rfl hl.1 rfl (Nat.le_of_ble_eq_true rfl) dX1_layerAt_2 ⟨Nat.le_of_ble_eq_true rfl, Nat.le_of_ble_eq_true rfl⟩) ht hlk hS (Nat.le_of_ble_eq_true rfl) (Nat.le_of_ble_eq_true rfl)

abbrev rm_X1_layerAt_n2 : Room := { frames := 7, cells := 1, slots := 6, locals := 102 }
set_option maxHeartbeats 400000 in
theorem k_X1_layerAt_n2 (l : Launch) (g : GG) (A : Nat → Prop) (hlt : l.stackTraces = false) (ad : Nat → Nat → Nat) (Mx : MM) (x : St) (k : Nat) (hk : k < 25) (a1 : Int32) (h1 : inF a1 0 4 = 0) : vx_Met l yX1_layerAt (ws_ yX1_layerAt cX1_layerAt 4 (some (.object "Wakeground$Layer"))) rm_X1_layerAt_n2 (va_Pc [.ref (ad 0 0), .int (nI k), .int a1] (mPre g A (cwM g ad Mx x))) pNo (mX g A "java/lang/IndexOutOfBoundsException" (cwM g ad Mx x)) 1 6 A := by
  refine m_startX RX1 rfl (by decide) (Nat.le_of_ble_eq_true rfl) ?_
  intro p e s m args below meth c hcf hr hlk hnm hE hA ht H locs hM hS ls hl
  have hx := hcf.1
  have hb := hcf.2.1
  have hml := hcf.2.2.1
  have hown := hcf.2.2.2.1
  have hts := hcf.2.2.2.2
  have hl : lv_has ls 4 [(0, .ref (ad 0 0)), (1, .int (nI k)), (2, .int a1)] := hl
  generalize hQ : vx_MQ below pNo (mX g A "java/lang/IndexOutOfBoundsException" (cwM g ad Mx x)) args s 1 6 A = Q
  refine lv_aload_n hx hb dX1_layerAt_0 rfl (lv_at hl 0 rfl) ?_
  refine lv_iload_n hx hb dX1_layerAt_1 rfl (lv_at hl 1 rfl) ?_
  refine m_cpr (m_rV (As := [.int (nI k)]) (rest := []) hcf (k_X1_cellAt_ok l g A ad Mx x k (by omega)) (cwV 1 hts (lw_V q416 q418 qs7 q35 q419) rfl rfl rfl (by decide +kernel) ⟨Nat.le_of_ble_eq_true rfl, Nat.le_of_ble_eq_true rfl⟩) hE hA hM hS 0 0 cw_0 (ci := 0) rfl rfl hl.1 rfl (Nat.le_of_ble_eq_true rfl) dX1_layerAt_2 ⟨Nat.le_of_ble_eq_true rfl, Nat.le_of_ble_eq_true rfl⟩) hS (fun H locs hM hS => ?_)
  refine lv_astore_n (lv' := [(3, .ref (ad 2 k)), (0, .ref (ad 0 0)), (1, .int (nI k)), (2, .int a1)]) hx hb dX1_layerAt_5 rfl hl (by decide) rfl (fun ls hl => ?_)
  refine lv_iload_n hx hb dX1_layerAt_6 rfl (lv_at hl 3 rfl) ?_
  refine lv_iconst (v := 0) hx hb dX1_layerAt_7 (by decide) ?_
  refine lv_iconst (v := 4) hx hb dX1_layerAt_8 (by decide) ?_
  refine m_cpi (m_rS (As := [.int a1, .int 0, .int 4]) (rest := []) hcf (k_X1_isIn l g A (cwM g ad Mx x) a1 0 4) (va_cwS 3 hts (lw_S q420 q421 q35 q422) rfl rfl rfl (by decide +kernel) ⟨Nat.le_of_ble_eq_true rfl, Nat.le_of_ble_eq_true rfl⟩) hE hA hM hS rfl hl.1 rfl (Nat.le_of_ble_eq_true rfl) dX1_layerAt_9 ⟨Nat.le_of_ble_eq_true rfl, Nat.le_of_ble_eq_true rfl⟩) hS (fun H locs hM hS => ?_)
  refine m_topI (y := 0) (h1) ?_
  rw [← hQ]
  exact m_xend (m_xS (As := [.int 0]) (rest := []) hcf (k_X1_known_no l g A hlt (cwM g ad Mx x)) (va_cwS 1 hts (lw_S q423 q424 q35 q425) rfl rfl rfl (by decide +kernel) ⟨Nat.le_of_ble_eq_true rfl, Nat.le_of_ble_eq_true rfl⟩) hE hA hM hS rfl hl.1 rfl (Nat.le_of_ble_eq_true rfl) dX1_layerAt_12 ⟨Nat.le_of_ble_eq_true rfl, Nat.le_of_ble_eq_true rfl⟩) ht hlk hS (Nat.le_of_ble_eq_true rfl) (Nat.le_of_ble_eq_true rfl)
