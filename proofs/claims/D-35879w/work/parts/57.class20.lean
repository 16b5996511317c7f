/-! a cell is made -/
set_option maxRecDepth 100000
section MIN
variable {p : Program} {l : Launch} {e : Env} {R : Room} {s : State} {m : MethodId} {args : Array Value} {below : List Frame} {meth : Method} {c : Code} {H : Heap} {locs : List Loc} {cells slots : Nat} {Q : State → Prop}
variable {cc bytes : ByteArray} {pc mc ms n nL maxL index ci : Nat} {ls : Array Slot} {rest st As : List Value} {g : GG} {A : Nat → Prop} {a b : Nat} {M : MM} {y : MethodName} {ws Ts : List Cond} {rm : Room} {own host : String} {Qc : Array Value → State → Outcome → State → Prop}
theorem m_rIN (S : CallFix p m c cc nL s args Ts own) (hMet : Met l y ws rm (va_Pc (.ref b :: As) (mPre g A M)) Qc mc ms A) (cw : va_CN R s args own index y host bytes maxL none ws rm mc ms n ∧ y.name = "<init>" ∧ (Cond.instanceMethod y).before args s = true) (hE : amb g A s s.heap) (hA : ∀ q : Nat, s.heap.size ≤ q → A q) (hM : mW g.1 A M H) (hS : va_S A s.heap H locs)
    (hn : As.length = n) (hsize : ls.size = nL) (hst : st = As.reverse ++ .ref b :: rest) (hW : (rest.map fun v => v.category).sum ≤ 8) (hdg : decode cc pc = .ok (.invokespecial index, 3)) (hf : cells + mc ≤ R.cells ∧ slots + ms ≤ R.slots) :
    va_Run p l e R s m args below meth c H locs cells slots mc ms (F0 m pc ls st) rest (Qc (Value.ref b :: As).toArray) A :=
  va_runIN S hMet cw ⟨mPre_blind _, mPre_at hE hA hM hS _⟩ rfl hn hsize hst (lv_room hW) hdg hf
end MIN
theorem la_fs : ∀ j, j < 4 → defaultValue (tyX3 j) = vp_V [.int 0, .int 0, .int 0, .int 0] j := by
  intro j hj
  have h : j = 0 ∨ j = 1 ∨ j = 2 ∨ j = 3 := by omega
  rcases h with rfl | rfl | rfl | rfl <;> rfl
def cnM (g : GG) (M : MM) (cn q o ra : Nat) (la : Nat → Nat) : MM := mUp (mUp (mUp (mUp (mUp (mUp (mUp M 2 cn (q, .inr (2, [.int (nI cn), .ref ra, .int 100, .int 0, .int 0, .int 2, .int 0, .null, .ref o]))) 3 cn (ra, .inl (g.2.1 4, 5, .inr (.inr (.inr (.inr (va_up (va_up (va_up (va_up (va_up (fun _ => none) 0 (some (la 0))) 1 (some (la 1))) 2 (some (la 2))) 3 (some (la 3))) 4 (some (la 4))))))))) 4 (5 * cn + 0) (la 0, .inr (3, [.int 5, .int 0, .int (-1000), .int 400]))) 4 (5 * cn + 1) (la 1, .inr (3, [.int 5, .int 2, .int (-1000), .int 400]))) 4 (5 * cn + 2) (la 2, .inr (3, [.int 5, .int 3, .int (-1000), .int 400]))) 4 (5 * cn + 3) (la 3, .inr (3, [.int 5, .int 2, .int (-1000), .int 400]))) 4 (5 * cn + 4) (la 4, .inr (3, [.int 5, .int 0, .int (-1000), .int 400]))
abbrev rm_X2_init : Room := { frames := 2, cells := 6, slots := 25, locals := 40 }
set_option maxHeartbeats 4000000 in
theorem k_X2_init (l : Launch) (g : GG) (A : Nat → Prop) (M : MM) (cn q o : Nat) (h3 : M 3 cn = none) (h4 : ∀ l, l < 5 → M 4 (5 * cn + l) = none) : Met l yX2_init (ws_ yX2_init cX2_init 4 none) rm_X2_init (va_Pc [.ref q, .ref o, .int (nI cn)] (mPre g A (mUp (M) 2 cn (q, .inr (2, [.int 0, .null, .int 0, .int 0, .int 0, .int 0, .int 0, .null, .null]))))) (va_Qv (fun (_ : Nat × (Nat → Nat)) => True) (fun u t => mW g.1 A (cnM g M cn q o u.1 u.2) t.heap) A) 6 25 A := by
  refine m_start RX2 rfl (by decide) (Nat.le_of_ble_eq_true rfl) ?_
  intro p e s m args below meth c hcf hr hlk hnm hE hA H locs hM hS ls hl
  have hx := hcf.1
  have hb := hcf.2.1
  have hml := hcf.2.2.1
  have hown := hcf.2.2.2.1
  have hts := hcf.2.2.2.2
  have hl : lv_has ls 4 [(0, .ref q), (1, .ref o), (2, .int (nI cn))] := hl
  generalize hQ : MQ below (va_Qv (fun (_ : Nat × (Nat → Nat)) => True) (fun u t => mW g.1 A (cnM g M cn q o u.1 u.2) t.heap) A) args s 6 25 A = Q
  refine lv_aload_n hx hb dX2_init_0 rfl (lv_at hl 0 rfl) ?_
  refine lv_aload_n hx hb dX2_init_1 rfl (lv_at hl 1 rfl) ?_
  refine m_putF hx hb hts in_X2 tyX2 tyX2_ok nmX2 hown hE hM hS 2 cn (mUp_self _ _ _ _) (ci := 2) rfl 8 (by decide) (hts _ q153) (fun _ h9 => h9) rfl hnm rfl (ty := .object "Wakeground") (by decide +kernel) rfl rfl (Nat.le_of_ble_eq_true rfl) (M' := mUp (M) 2 cn (q, .inr (2, [.int 0, .null, .int 0, .int 0, .int 0, .int 0, .int 0, .null, .ref o]))) (mUp_self _ _ _ _) (fun j i h9 => (mUp_ne _ _ h9).trans (mUp_ne _ _ h9).symm) dX2_init_2 (fun H locs hM hS => ?_)
  refine lv_aload_n hx hb dX2_init_5 rfl (lv_at hl 0 rfl) ?_
  refine W.objInit hx hb hown (hts _ q105) (hts _ q71) (hts _ q72) rfl (by rw [hml]; exact hl.1) rfl dX2_init_6 (Nat.le_of_ble_eq_true rfl) (Nat.le_of_ble_eq_true rfl) ?_
  refine W.eq (g2 := F0 m 9 ls []) rfl ?_
  refine lv_aload_n hx hb dX2_init_9 rfl (lv_at hl 0 rfl) ?_
  refine lv_iconst (v := 5) hx hb dX2_init_10 (by decide) ?_
  refine m_newq hx hb hown (hts _ q106) hE.2.2.2.2.2.1 hE hM hS hA 3 cn ((mUp_ne _ _ (by omega)).trans (h3)) 4 rfl 5 (by decide) (by decide) (by decide) (Nat.le_of_ble_eq_true rfl) (Nat.le_of_ble_eq_true rfl) dX2_init_11 (fun r_3 H h_r_3 hM hS => ?_)
  refine m_putF hx hb hts in_X2 tyX2 tyX2_ok nmX2 hown hE hM hS 2 cn ((mUp_ne _ _ (by omega)).trans (mUp_self _ _ _ _)) (ci := 2) rfl 1 (by decide) (hts _ q138) (fun _ h9 => h9) rfl hnm rfl (ty := .array (.object "Wakeground$Layer")) (by decide +kernel) rfl rfl (Nat.le_of_ble_eq_true rfl) (M' := mUp (mUp (M) 2 cn (q, .inr (2, [.int 0, .ref r_3, .int 0, .int 0, .int 0, .int 0, .int 0, .null, .ref o]))) 3 cn (r_3, .inl (g.2.1 4, 5, .inr (.inr (.inr (.inr (fun _ => none))))))) ((mUp_ne _ _ (by omega)).trans (mUp_self _ _ _ _)) (fun j i h9 => mUp_cong (fun j i h9 => (mUp_ne _ _ h9).trans (mUp_ne _ _ h9).symm) j i h9) dX2_init_14 (fun H locs hM hS => ?_)
  refine lv_aload_n hx hb dX2_init_17 rfl (lv_at hl 0 rfl) ?_
  refine lv_bipush (v := 100) hx hb dX2_init_18 (by decide) ?_
  refine m_put hx hb hts in_X2 tyX2 tyX2_ok nmX2 hown hE hM hS 2 cn ((mUp_ne _ _ (by omega)).trans (mUp_self _ _ _ _)) (ci := 2) rfl 2 (by decide) (hts _ q141) (fun _ h9 => h9) rfl (ty := .int) (by decide +kernel) rfl rfl (Nat.le_of_ble_eq_true rfl) (M' := mUp (mUp (M) 2 cn (q, .inr (2, [.int 0, .ref r_3, .int 100, .int 0, .int 0, .int 0, .int 0, .null, .ref o]))) 3 cn (r_3, .inl (g.2.1 4, 5, .inr (.inr (.inr (.inr (fun _ => none))))))) ((mUp_ne _ _ (by omega)).trans (mUp_self _ _ _ _)) (fun j i h9 => mUp_cong (fun j i h9 => (mUp_ne _ _ h9).trans (mUp_ne _ _ h9).symm) j i h9) dX2_init_20 (fun H locs hM hS => ?_)
  refine lv_aload_n hx hb dX2_init_23 rfl (lv_at hl 0 rfl) ?_
  refine lv_iconst (v := 2) hx hb dX2_init_24 (by decide) ?_
  refine m_put hx hb hts in_X2 tyX2 tyX2_ok nmX2 hown hE hM hS 2 cn ((mUp_ne _ _ (by omega)).trans (mUp_self _ _ _ _)) (ci := 2) rfl 5 (by decide) (hts _ q147) (fun _ h9 => h9) rfl (ty := .int) (by decide +kernel) rfl rfl (Nat.le_of_ble_eq_true rfl) (M' := mUp (mUp (M) 2 cn (q, .inr (2, [.int 0, .ref r_3, .int 100, .int 0, .int 0, .int 2, .int 0, .null, .ref o]))) 3 cn (r_3, .inl (g.2.1 4, 5, .inr (.inr (.inr (.inr (fun _ => none))))))) ((mUp_ne _ _ (by omega)).trans (mUp_self _ _ _ _)) (fun j i h9 => mUp_cong (fun j i h9 => (mUp_ne _ _ h9).trans (mUp_ne _ _ h9).symm) j i h9) dX2_init_25 (fun H locs hM hS => ?_)
  refine lv_aload_n hx hb dX2_init_28 rfl (lv_at hl 0 rfl) ?_
  refine lv_iload_n hx hb dX2_init_29 rfl (lv_at hl 2 rfl) ?_
  refine m_putF hx hb hts in_X2 tyX2 tyX2_ok nmX2 hown hE hM hS 2 cn ((mUp_ne _ _ (by omega)).trans (mUp_self _ _ _ _)) (ci := 2) rfl 0 (by decide) (hts _ q136) (fun _ h9 => h9) rfl hnm rfl (ty := .int) (by decide +kernel) rfl rfl (Nat.le_of_ble_eq_true rfl) (M' := mUp (mUp (M) 2 cn (q, .inr (2, [.int (nI cn), .ref r_3, .int 100, .int 0, .int 0, .int 2, .int 0, .null, .ref o]))) 3 cn (r_3, .inl (g.2.1 4, 5, .inr (.inr (.inr (.inr (fun _ => none))))))) ((mUp_ne _ _ (by omega)).trans (mUp_self _ _ _ _)) (fun j i h9 => mUp_cong (fun j i h9 => (mUp_ne _ _ h9).trans (mUp_ne _ _ h9).symm) j i h9) dX2_init_30 (fun H locs hM hS => ?_)
  refine lv_iconst (v := 0) hx hb dX2_init_33 (by decide) ?_
  refine lv_istore_n (lv' := [(3, .int 0), (0, .ref q), (1, .ref o), (2, .int (nI cn))]) hx hb dX2_init_34 rfl hl (by decide) rfl (fun ls hl => ?_)
  refine lv_iload_n hx hb dX2_init_35 rfl (lv_at hl 0 rfl) ?_
  refine lv_iconst (v := 5) hx hb dX2_init_36 (by decide) ?_
  refine lv_icmp_ge (tgt := 92) hx hb dX2_init_37 (by decide) (fun c9 => absurd c9 (by decide)) (fun _ => ?_)
  refine lv_aload_n hx hb dX2_init_40 rfl (lv_at hl 1 rfl) ?_
  refine m_get hx hb hts in_X2 hown hE hM 2 cn ((mUp_ne _ _ (by omega)).trans (mUp_self _ _ _ _)) (ci := 2) rfl 1 (by decide) (hts _ q138) (fun _ h9 => h9) rfl dX2_init_41 ?_
  refine lv_iload_n hx hb dX2_init_44 rfl (lv_at hl 0 rfl) ?_
  refine m_new hx hb hts in_X3 tyX3 tyX3_ok hown (hts _ q106) (hts _ q108) (hts _ q40) hE hM hS hA 4 (5 * cn + 0) ((mUp_ne _ _ (by omega)).trans ((mUp_ne _ _ (by omega)).trans (h4 0 (by decide)))) (ci := 3) rfl (fs := [.int 0, .int 0, .int 0, .int 0]) la_fs (Nat.le_of_ble_eq_true rfl) (Nat.le_of_ble_eq_true rfl) dX2_init_45 (fun q_11 H h_q_11 hM hS => ?_)
  refine lv_dup hx hb dX2_init_48 rfl ?_
  refine m_cpv (m_rIN (As := []) (rest := [.ref q_11, .int 0, .ref r_3]) hcf (k_X3_init l g A (mUp (mUp (M) 2 cn (q, .inr (2, [.int (nI cn), .ref r_3, .int 100, .int 0, .int 0, .int 2, .int 0, .null, .ref o]))) 3 cn (r_3, .inl (g.2.1 4, 5, .inr (.inr (.inr (.inr (fun _ => none))))))) 4 (5 * cn + 0) q_11) ⟨va_cnB 0 hts (lw_meth q111) rfl rfl rfl (hE.nw 0 rfl) (hts _ q40) (by decide +kernel) ⟨Nat.le_of_ble_eq_true rfl, Nat.le_of_ble_eq_true rfl⟩, rfl, hts _ q110⟩ hE hA hM hS rfl hl.1 rfl (Nat.le_of_ble_eq_true rfl) dX2_init_49 ⟨Nat.le_of_ble_eq_true rfl, Nat.le_of_ble_eq_true rfl⟩) hS (fun H locs hM hS => ?_)
  refine m_aast hx hb hE hM hS 3 cn 4 4 (5 * cn + 0) 3 ((mUp_ne _ _ (by omega)).trans (mUp_self _ _ _ _)) rfl (mUp_self _ _ _ _) rfl 0 (by omega) (by decide) rfl (M' := mUp (mUp (mUp (M) 2 cn (q, .inr (2, [.int (nI cn), .ref r_3, .int 100, .int 0, .int 0, .int 2, .int 0, .null, .ref o]))) 3 cn (r_3, .inl (g.2.1 4, 5, .inr (.inr (.inr (.inr (va_up (fun _ => none) 0 (some q_11)))))))) 4 (5 * cn + 0) (q_11, .inr (3, [.int 5, .int 0, .int (-1000), .int 400]))) ((mUp_ne _ _ (by omega)).trans (mUp_self _ _ _ _)) (fun j i h9 => mUp_cong (fun j i h9 => (mUp_ne _ _ h9).trans (mUp_ne _ _ h9).symm) j i h9) dX2_init_52 (fun H locs hM hS => ?_)
  refine lv_aload_n hx hb dX2_init_53 rfl (lv_at hl 1 rfl) ?_
  refine m_get hx hb hts in_X2 hown hE hM 2 cn ((mUp_ne _ _ (by omega)).trans ((mUp_ne _ _ (by omega)).trans (mUp_self _ _ _ _))) (ci := 2) rfl 1 (by decide) (hts _ q138) (fun _ h9 => h9) rfl dX2_init_54 ?_
  refine lv_iload_n hx hb dX2_init_57 rfl (lv_at hl 0 rfl) ?_
  refine m_aald hx hb hE hM 3 cn 4 ((mUp_ne _ _ (by omega)).trans (mUp_self _ _ _ _)) rfl 0 (by omega) (by decide) rfl (v := .ref q_11) rfl dX2_init_58 ?_
  refine lv_iload_n hx hb dX2_init_59 rfl (lv_at hl 0 rfl) ?_
  refine lv_iconst (v := 1) hx hb dX2_init_60 (by decide) ?_
  refine lv_icmp_eq (tgt := 69) hx hb dX2_init_61 (by decide) (fun c9 => absurd c9 (by decide)) (fun _ => ?_)
  refine lv_iload_n hx hb dX2_init_64 rfl (lv_at hl 0 rfl) ?_
  refine lv_iconst (v := 3) hx hb dX2_init_65 (by decide) ?_
  refine lv_icmp_ne (tgt := 73) hx hb dX2_init_66 (by decide) (fun _ => ?_) (fun c9 => absurd c9 (by decide))
  refine lv_iload_n hx hb dX2_init_73 rfl (lv_at hl 0 rfl) ?_
  refine lv_iconst (v := 2) hx hb dX2_init_74 (by decide) ?_
  refine lv_icmp_ne (tgt := 82) hx hb dX2_init_75 (by decide) (fun _ => ?_) (fun c9 => absurd c9 (by decide))
  refine lv_iconst (v := 0) hx hb dX2_init_82 (by decide) ?_
  refine m_put hx hb hts in_X3 tyX3 tyX3_ok nmX3 hown hE hM hS 4 (5 * cn + 0) (mUp_self _ _ _ _) (ci := 3) rfl 1 (by decide) (hts _ q115) (fun _ h9 => h9) rfl (ty := .int) (by decide +kernel) rfl rfl (Nat.le_of_ble_eq_true rfl) (M' := mUp (mUp (mUp (M) 2 cn (q, .inr (2, [.int (nI cn), .ref r_3, .int 100, .int 0, .int 0, .int 2, .int 0, .null, .ref o]))) 3 cn (r_3, .inl (g.2.1 4, 5, .inr (.inr (.inr (.inr (va_up (fun _ => none) 0 (some q_11)))))))) 4 (5 * cn + 0) (q_11, .inr (3, [.int 5, .int 0, .int (-1000), .int 400]))) (mUp_self _ _ _ _) (fun j i h9 => (mUp_ne _ _ h9).trans (mUp_ne _ _ h9).symm) dX2_init_83 (fun H locs hM hS => ?_)
  refine lv_iinc (v := 1) (lv' := [(3, .int 1), (0, .ref q), (1, .ref o), (2, .int (nI cn))]) hx hb dX2_init_86 hl (k := 0) rfl ((by decide)) (by decide) rfl (fun ls hl => ?_)
  refine lv_goto (tgt := 35) hx hb dX2_init_89 (by decide) ?_
  refine lv_iload_n hx hb dX2_init_35 rfl (lv_at hl 0 rfl) ?_
  refine lv_iconst (v := 5) hx hb dX2_init_36 (by decide) ?_
  refine lv_icmp_ge (tgt := 92) hx hb dX2_init_37 (by decide) (fun c9 => absurd c9 (by decide)) (fun _ => ?_)
  refine lv_aload_n hx hb dX2_init_40 rfl (lv_at hl 1 rfl) ?_
  refine m_get hx hb hts in_X2 hown hE hM 2 cn ((mUp_ne _ _ (by omega)).trans ((mUp_ne _ _ (by omega)).trans (mUp_self _ _ _ _))) (ci := 2) rfl 1 (by decide) (hts _ q138) (fun _ h9 => h9) rfl dX2_init_41 ?_
  refine lv_iload_n hx hb dX2_init_44 rfl (lv_at hl 0 rfl) ?_
  refine m_new hx hb hts in_X3 tyX3 tyX3_ok hown (hts _ q106) (hts _ q108) (hts _ q40) hE hM hS hA 4 (5 * cn + 1) ((mUp_ne _ _ (by omega)).trans ((mUp_ne _ _ (by omega)).trans ((mUp_ne _ _ (by omega)).trans (h4 1 (by decide))))) (ci := 3) rfl (fs := [.int 0, .int 0, .int 0, .int 0]) la_fs (Nat.le_of_ble_eq_true rfl) (Nat.le_of_ble_eq_true rfl) dX2_init_45 (fun q_20 H h_q_20 hM hS => ?_)
  refine lv_dup hx hb dX2_init_48 rfl ?_
  refine m_cpv (m_rIN (As := []) (rest := [.ref q_20, .int 1, .ref r_3]) hcf (k_X3_init l g A (mUp (mUp (mUp (M) 2 cn (q, .inr (2, [.int (nI cn), .ref r_3, .int 100, .int 0, .int 0, .int 2, .int 0, .null, .ref o]))) 3 cn (r_3, .inl (g.2.1 4, 5, .inr (.inr (.inr (.inr (va_up (fun _ => none) 0 (some q_11)))))))) 4 (5 * cn + 0) (q_11, .inr (3, [.int 5, .int 0, .int (-1000), .int 400]))) 4 (5 * cn + 1) q_20) ⟨va_cnB 0 hts (lw_meth q111) rfl rfl rfl (hE.nw 0 rfl) (hts _ q40) (by decide +kernel) ⟨Nat.le_of_ble_eq_true rfl, Nat.le_of_ble_eq_true rfl⟩, rfl, hts _ q110⟩ hE hA hM hS rfl hl.1 rfl (Nat.le_of_ble_eq_true rfl) dX2_init_49 ⟨Nat.le_of_ble_eq_true rfl, Nat.le_of_ble_eq_true rfl⟩) hS (fun H locs hM hS => ?_)
  refine m_aast hx hb hE hM hS 3 cn 4 4 (5 * cn + 1) 3 ((mUp_ne _ _ (by omega)).trans ((mUp_ne _ _ (by omega)).trans (mUp_self _ _ _ _))) rfl (mUp_self _ _ _ _) rfl 1 (by omega) (by decide) rfl (M' := mUp (mUp (mUp (mUp (M) 2 cn (q, .inr (2, [.int (nI cn), .ref r_3, .int 100, .int 0, .int 0, .int 2, .int 0, .null, .ref o]))) 3 cn (r_3, .inl (g.2.1 4, 5, .inr (.inr (.inr (.inr (va_up (va_up (fun _ => none) 0 (some q_11)) 1 (some q_20)))))))) 4 (5 * cn + 0) (q_11, .inr (3, [.int 5, .int 0, .int (-1000), .int 400]))) 4 (5 * cn + 1) (q_20, .inr (3, [.int 5, .int 0, .int (-1000), .int 400]))) ((mUp_ne _ _ (by omega)).trans ((mUp_ne _ _ (by omega)).trans (mUp_self _ _ _ _))) (fun j i h9 => mUp_cong (fun j i h9 => mUp_cong (fun j i h9 => (mUp_ne _ _ h9).trans (mUp_ne _ _ h9).symm) j i h9) j i h9) dX2_init_52 (fun H locs hM hS => ?_)
  refine lv_aload_n hx hb dX2_init_53 rfl (lv_at hl 1 rfl) ?_
  refine m_get hx hb hts in_X2 hown hE hM 2 cn ((mUp_ne _ _ (by omega)).trans ((mUp_ne _ _ (by omega)).trans ((mUp_ne _ _ (by omega)).trans (mUp_self _ _ _ _)))) (ci := 2) rfl 1 (by decide) (hts _ q138) (fun _ h9 => h9) rfl dX2_init_54 ?_
  refine lv_iload_n hx hb dX2_init_57 rfl (lv_at hl 0 rfl) ?_
  refine m_aald hx hb hE hM 3 cn 4 ((mUp_ne _ _ (by omega)).trans ((mUp_ne _ _ (by omega)).trans (mUp_self _ _ _ _))) rfl 1 (by omega) (by decide) rfl (v := .ref q_20) rfl dX2_init_58 ?_
  refine lv_iload_n hx hb dX2_init_59 rfl (lv_at hl 0 rfl) ?_
  refine lv_iconst (v := 1) hx hb dX2_init_60 (by decide) ?_
  refine lv_icmp_eq (tgt := 69) hx hb dX2_init_61 (by decide) (fun _ => ?_) (fun c9 => absurd (by decide) c9)
  refine lv_iconst (v := 2) hx hb dX2_init_69 (by decide) ?_
  refine lv_goto (tgt := 83) hx hb dX2_init_70 (by decide) ?_
  refine m_put hx hb hts in_X3 tyX3 tyX3_ok nmX3 hown hE hM hS 4 (5 * cn + 1) (mUp_self _ _ _ _) (ci := 3) rfl 1 (by decide) (hts _ q115) (fun _ h9 => h9) rfl (ty := .int) (by decide +kernel) rfl rfl (Nat.le_of_ble_eq_true rfl) (M' := mUp (mUp (mUp (mUp (M) 2 cn (q, .inr (2, [.int (nI cn), .ref r_3, .int 100, .int 0, .int 0, .int 2, .int 0, .null, .ref o]))) 3 cn (r_3, .inl (g.2.1 4, 5, .inr (.inr (.inr (.inr (va_up (va_up (fun _ => none) 0 (some q_11)) 1 (some q_20)))))))) 4 (5 * cn + 0) (q_11, .inr (3, [.int 5, .int 0, .int (-1000), .int 400]))) 4 (5 * cn + 1) (q_20, .inr (3, [.int 5, .int 2, .int (-1000), .int 400]))) (mUp_self _ _ _ _) (fun j i h9 => (mUp_ne _ _ h9).trans (mUp_ne _ _ h9).symm) dX2_init_83 (fun H locs hM hS => ?_)
  refine lv_iinc (v := 2) (lv' := [(3, .int 2), (0, .ref q), (1, .ref o), (2, .int (nI cn))]) hx hb dX2_init_86 hl (k := 0) rfl ((by decide)) (by decide) rfl (fun ls hl => ?_)
  refine lv_goto (tgt := 35) hx hb dX2_init_89 (by decide) ?_
  refine lv_iload_n hx hb dX2_init_35 rfl (lv_at hl 0 rfl) ?_
  refine lv_iconst (v := 5) hx hb dX2_init_36 (by decide) ?_
  refine lv_icmp_ge (tgt := 92) hx hb dX2_init_37 (by decide) (fun c9 => absurd c9 (by decide)) (fun _ => ?_)
  refine lv_aload_n hx hb dX2_init_40 rfl (lv_at hl 1 rfl) ?_
  refine m_get hx hb hts in_X2 hown hE hM 2 cn ((mUp_ne _ _ (by omega)).trans ((mUp_ne _ _ (by omega)).trans ((mUp_ne _ _ (by omega)).trans (mUp_self _ _ _ _)))) (ci := 2) rfl 1 (by decide) (hts _ q138) (fun _ h9 => h9) rfl dX2_init_41 ?_
  refine lv_iload_n hx hb dX2_init_44 rfl (lv_at hl 0 rfl) ?_
  refine m_new hx hb hts in_X3 tyX3 tyX3_ok hown (hts _ q106) (hts _ q108) (hts _ q40) hE hM hS hA 4 (5 * cn + 2) ((mUp_ne _ _ (by omega)).trans ((mUp_ne _ _ (by omega)).trans ((mUp_ne _ _ (by omega)).trans ((mUp_ne _ _ (by omega)).trans (h4 2 (by decide)))))) (ci := 3) rfl (fs := [.int 0, .int 0, .int 0, .int 0]) la_fs (Nat.le_of_ble_eq_true rfl) (Nat.le_of_ble_eq_true rfl) dX2_init_45 (fun q_29 H h_q_29 hM hS => ?_)
  refine lv_dup hx hb dX2_init_48 rfl ?_
  refine m_cpv (m_rIN (As := []) (rest := [.ref q_29, .int 2, .ref r_3]) hcf (k_X3_init l g A (mUp (mUp (mUp (mUp (M) 2 cn (q, .inr (2, [.int (nI cn), .ref r_3, .int 100, .int 0, .int 0, .int 2, .int 0, .null, .ref o]))) 3 cn (r_3, .inl (g.2.1 4, 5, .inr (.inr (.inr (.inr (va_up (va_up (fun _ => none) 0 (some q_11)) 1 (some q_20)))))))) 4 (5 * cn + 0) (q_11, .inr (3, [.int 5, .int 0, .int (-1000), .int 400]))) 4 (5 * cn + 1) (q_20, .inr (3, [.int 5, .int 2, .int (-1000), .int 400]))) 4 (5 * cn + 2) q_29) ⟨va_cnB 0 hts (lw_meth q111) rfl rfl rfl (hE.nw 0 rfl) (hts _ q40) (by decide +kernel) ⟨Nat.le_of_ble_eq_true rfl, Nat.le_of_ble_eq_true rfl⟩, rfl, hts _ q110⟩ hE hA hM hS rfl hl.1 rfl (Nat.le_of_ble_eq_true rfl) dX2_init_49 ⟨Nat.le_of_ble_eq_true rfl, Nat.le_of_ble_eq_true rfl⟩) hS (fun H locs hM hS => ?_)
  refine m_aast hx hb hE hM hS 3 cn 4 4 (5 * cn + 2) 3 ((mUp_ne _ _ (by omega)).trans ((mUp_ne _ _ (by omega)).trans ((mUp_ne _ _ (by omega)).trans (mUp_self _ _ _ _)))) rfl (mUp_self _ _ _ _) rfl 2 (by omega) (by decide) rfl (M' := mUp (mUp (mUp (mUp (mUp (M) 2 cn (q, .inr (2, [.int (nI cn), .ref r_3, .int 100, .int 0, .int 0, .int 2, .int 0, .null, .ref o]))) 3 cn (r_3, .inl (g.2.1 4, 5, .inr (.inr (.inr (.inr (va_up (va_up (va_up (fun _ => none) 0 (some q_11)) 1 (some q_20)) 2 (some q_29)))))))) 4 (5 * cn + 0) (q_11, .inr (3, [.int 5, .int 0, .int (-1000), .int 400]))) 4 (5 * cn + 1) (q_20, .inr (3, [.int 5, .int 2, .int (-1000), .int 400]))) 4 (5 * cn + 2) (q_29, .inr (3, [.int 5, .int 0, .int (-1000), .int 400]))) ((mUp_ne _ _ (by omega)).trans ((mUp_ne _ _ (by omega)).trans ((mUp_ne _ _ (by omega)).trans (mUp_self _ _ _ _)))) (fun j i h9 => mUp_cong (fun j i h9 => mUp_cong (fun j i h9 => mUp_cong (fun j i h9 => (mUp_ne _ _ h9).trans (mUp_ne _ _ h9).symm) j i h9) j i h9) j i h9) dX2_init_52 (fun H locs hM hS => ?_)
  refine lv_aload_n hx hb dX2_init_53 rfl (lv_at hl 1 rfl) ?_
  refine m_get hx hb hts in_X2 hown hE hM 2 cn ((mUp_ne _ _ (by omega)).trans ((mUp_ne _ _ (by omega)).trans ((mUp_ne _ _ (by omega)).trans ((mUp_ne _ _ (by omega)).trans (mUp_self _ _ _ _))))) (ci := 2) rfl 1 (by decide) (hts _ q138) (fun _ h9 => h9) rfl dX2_init_54 ?_
  refine lv_iload_n hx hb dX2_init_57 rfl (lv_at hl 0 rfl) ?_
  refine m_aald hx hb hE hM 3 cn 4 ((mUp_ne _ _ (by omega)).trans ((mUp_ne _ _ (by omega)).trans ((mUp_ne _ _ (by omega)).trans (mUp_self _ _ _ _)))) rfl 2 (by omega) (by decide) rfl (v := .ref q_29) rfl dX2_init_58 ?_
  refine lv_iload_n hx hb dX2_init_59 rfl (lv_at hl 0 rfl) ?_
  refine lv_iconst (v := 1) hx hb dX2_init_60 (by decide) ?_
  refine lv_icmp_eq (tgt := 69) hx hb dX2_init_61 (by decide) (fun c9 => absurd c9 (by decide)) (fun _ => ?_)
  refine lv_iload_n hx hb dX2_init_64 rfl (lv_at hl 0 rfl) ?_
  refine lv_iconst (v := 3) hx hb dX2_init_65 (by decide) ?_
  refine lv_icmp_ne (tgt := 73) hx hb dX2_init_66 (by decide) (fun _ => ?_) (fun c9 => absurd c9 (by decide))
  refine lv_iload_n hx hb dX2_init_73 rfl (lv_at hl 0 rfl) ?_
  refine lv_iconst (v := 2) hx hb dX2_init_74 (by decide) ?_
  refine lv_icmp_ne (tgt := 82) hx hb dX2_init_75 (by decide) (fun c9 => absurd (by decide) c9) (fun _ => ?_)
  refine lv_iconst (v := 3) hx hb dX2_init_78 (by decide) ?_
  refine lv_goto (tgt := 83) hx hb dX2_init_79 (by decide) ?_
  refine m_put hx hb hts in_X3 tyX3 tyX3_ok nmX3 hown hE hM hS 4 (5 * cn + 2) (mUp_self _ _ _ _) (ci := 3) rfl 1 (by decide) (hts _ q115) (fun _ h9 => h9) rfl (ty := .int) (by decide +kernel) rfl rfl (Nat.le_of_ble_eq_true rfl) (M' := mUp (mUp (mUp (mUp (mUp (M) 2 cn (q, .inr (2, [.int (nI cn), .ref r_3, .int 100, .int 0, .int 0, .int 2, .int 0, .null, .ref o]))) 3 cn (r_3, .inl (g.2.1 4, 5, .inr (.inr (.inr (.inr (va_up (va_up (va_up (fun _ => none) 0 (some q_11)) 1 (some q_20)) 2 (some q_29)))))))) 4 (5 * cn + 0) (q_11, .inr (3, [.int 5, .int 0, .int (-1000), .int 400]))) 4 (5 * cn + 1) (q_20, .inr (3, [.int 5, .int 2, .int (-1000), .int 400]))) 4 (5 * cn + 2) (q_29, .inr (3, [.int 5, .int 3, .int (-1000), .int 400]))) (mUp_self _ _ _ _) (fun j i h9 => (mUp_ne _ _ h9).trans (mUp_ne _ _ h9).symm) dX2_init_83 (fun H locs hM hS => ?_)
  refine lv_iinc (v := 3) (lv' := [(3, .int 3), (0, .ref q), (1, .ref o), (2, .int (nI cn))]) hx hb dX2_init_86 hl (k := 0) rfl ((by decide)) (by decide) rfl (fun ls hl => ?_)
  refine lv_goto (tgt := 35) hx hb dX2_init_89 (by decide) ?_
  refine lv_iload_n hx hb dX2_init_35 rfl (lv_at hl 0 rfl) ?_
  refine lv_iconst (v := 5) hx hb dX2_init_36 (by decide) ?_
  refine lv_icmp_ge (tgt := 92) hx hb dX2_init_37 (by decide) (fun c9 => absurd c9 (by decide)) (fun _ => ?_)
  refine lv_aload_n hx hb dX2_init_40 rfl (lv_at hl 1 rfl) ?_
  refine m_get hx hb hts in_X2 hown hE hM 2 cn ((mUp_ne _ _ (by omega)).trans ((mUp_ne _ _ (by omega)).trans ((mUp_ne _ _ (by omega)).trans ((mUp_ne _ _ (by omega)).trans (mUp_self _ _ _ _))))) (ci := 2) rfl 1 (by decide) (hts _ q138) (fun _ h9 => h9) rfl dX2_init_41 ?_
  refine lv_iload_n hx hb dX2_init_44 rfl (lv_at hl 0 rfl) ?_
  refine m_new hx hb hts in_X3 tyX3 tyX3_ok hown (hts _ q106) (hts _ q108) (hts _ q40) hE hM hS hA 4 (5 * cn + 3) ((mUp_ne _ _ (by omega)).trans ((mUp_ne _ _ (by omega)).trans ((mUp_ne _ _ (by omega)).trans ((mUp_ne _ _ (by omega)).trans ((mUp_ne _ _ (by omega)).trans (h4 3 (by decide))))))) (ci := 3) rfl (fs := [.int 0, .int 0, .int 0, .int 0]) la_fs (Nat.le_of_ble_eq_true rfl) (Nat.le_of_ble_eq_true rfl) dX2_init_45 (fun q_38 H h_q_38 hM hS => ?_)
  refine lv_dup hx hb dX2_init_48 rfl ?_
  refine m_cpv (m_rIN (As := []) (rest := [.ref q_38, .int 3, .ref r_3]) hcf (k_X3_init l g A (mUp (mUp (mUp (mUp (mUp (M) 2 cn (q, .inr (2, [.int (nI cn), .ref r_3, .int 100, .int 0, .int 0, .int 2, .int 0, .null, .ref o]))) 3 cn (r_3, .inl (g.2.1 4, 5, .inr (.inr (.inr (.inr (va_up (va_up (va_up (fun _ => none) 0 (some q_11)) 1 (some q_20)) 2 (some q_29)))))))) 4 (5 * cn + 0) (q_11, .inr (3, [.int 5, .int 0, .int (-1000), .int 400]))) 4 (5 * cn + 1) (q_20, .inr (3, [.int 5, .int 2, .int (-1000), .int 400]))) 4 (5 * cn + 2) (q_29, .inr (3, [.int 5, .int 3, .int (-1000), .int 400]))) 4 (5 * cn + 3) q_38) ⟨va_cnB 0 hts (lw_meth q111) rfl rfl rfl (hE.nw 0 rfl) (hts _ q40) (by decide +kernel) ⟨Nat.le_of_ble_eq_true rfl, Nat.le_of_ble_eq_true rfl⟩, rfl, hts _ q110⟩ hE hA hM hS rfl hl.1 rfl (Nat.le_of_ble_eq_true rfl) dX2_init_49 ⟨Nat.le_of_ble_eq_true rfl, Nat.le_of_ble_eq_true rfl⟩) hS (fun H locs hM hS => ?_)
  refine m_aast hx hb hE hM hS 3 cn 4 4 (5 * cn + 3) 3 ((mUp_ne _ _ (by omega)).trans ((mUp_ne _ _ (by omega)).trans ((mUp_ne _ _ (by omega)).trans ((mUp_ne _ _ (by omega)).trans (mUp_self _ _ _ _))))) rfl (mUp_self _ _ _ _) rfl 3 (by omega) (by decide) rfl (M' := mUp (mUp (mUp (mUp (mUp (mUp (M) 2 cn (q, .inr (2, [.int (nI cn), .ref r_3, .int 100, .int 0, .int 0, .int 2, .int 0, .null, .ref o]))) 3 cn (r_3, .inl (g.2.1 4, 5, .inr (.inr (.inr (.inr (va_up (va_up (va_up (va_up (fun _ => none) 0 (some q_11)) 1 (some q_20)) 2 (some q_29)) 3 (some q_38)))))))) 4 (5 * cn + 0) (q_11, .inr (3, [.int 5, .int 0, .int (-1000), .int 400]))) 4 (5 * cn + 1) (q_20, .inr (3, [.int 5, .int 2, .int (-1000), .int 400]))) 4 (5 * cn + 2) (q_29, .inr (3, [.int 5, .int 3, .int (-1000), .int 400]))) 4 (5 * cn + 3) (q_38, .inr (3, [.int 5, .int 0, .int (-1000), .int 400]))) ((mUp_ne _ _ (by omega)).trans ((mUp_ne _ _ (by omega)).trans ((mUp_ne _ _ (by omega)).trans ((mUp_ne _ _ (by omega)).trans (mUp_self _ _ _ _))))) (fun j i h9 => mUp_cong (fun j i h9 => mUp_cong (fun j i h9 => mUp_cong (fun j i h9 => mUp_cong (fun j i h9 => (mUp_ne _ _ h9).trans (mUp_ne _ _ h9).symm) j i h9) j i h9) j i h9) j i h9) dX2_init_52 (fun H locs hM hS => ?_)
  refine lv_aload_n hx hb dX2_init_53 rfl (lv_at hl 1 rfl) ?_
  refine m_get hx hb hts in_X2 hown hE hM 2 cn ((mUp_ne _ _ (by omega)).trans ((mUp_ne _ _ (by omega)).trans ((mUp_ne _ _ (by omega)).trans ((mUp_ne _ _ (by omega)).trans ((mUp_ne _ _ (by omega)).trans (mUp_self _ _ _ _)))))) (ci := 2) rfl 1 (by decide) (hts _ q138) (fun _ h9 => h9) rfl dX2_init_54 ?_
  refine lv_iload_n hx hb dX2_init_57 rfl (lv_at hl 0 rfl) ?_
  refine m_aald hx hb hE hM 3 cn 4 ((mUp_ne _ _ (by omega)).trans ((mUp_ne _ _ (by omega)).trans ((mUp_ne _ _ (by omega)).trans ((mUp_ne _ _ (by omega)).trans (mUp_self _ _ _ _))))) rfl 3 (by omega) (by decide) rfl (v := .ref q_38) rfl dX2_init_58 ?_
  refine lv_iload_n hx hb dX2_init_59 rfl (lv_at hl 0 rfl) ?_
  refine lv_iconst (v := 1) hx hb dX2_init_60 (by decide) ?_
  refine lv_icmp_eq (tgt := 69) hx hb dX2_init_61 (by decide) (fun c9 => absurd c9 (by decide)) (fun _ => ?_)
  refine lv_iload_n hx hb dX2_init_64 rfl (lv_at hl 0 rfl) ?_
  refine lv_iconst (v := 3) hx hb dX2_init_65 (by decide) ?_
  refine lv_icmp_ne (tgt := 73) hx hb dX2_init_66 (by decide) (fun c9 => absurd (by decide) c9) (fun _ => ?_)
  refine lv_iconst (v := 2) hx hb dX2_init_69 (by decide) ?_
  refine lv_goto (tgt := 83) hx hb dX2_init_70 (by decide) ?_
  refine m_put hx hb hts in_X3 tyX3 tyX3_ok nmX3 hown hE hM hS 4 (5 * cn + 3) (mUp_self _ _ _ _) (ci := 3) rfl 1 (by decide) (hts _ q115) (fun _ h9 => h9) rfl (ty := .int) (by decide +kernel) rfl rfl (Nat.le_of_ble_eq_true rfl) (M' := mUp (mUp (mUp (mUp (mUp (mUp (M) 2 cn (q, .inr (2, [.int (nI cn), .ref r_3, .int 100, .int 0, .int 0, .int 2, .int 0, .null, .ref o]))) 3 cn (r_3, .inl (g.2.1 4, 5, .inr (.inr (.inr (.inr (va_up (va_up (va_up (va_up (fun _ => none) 0 (some q_11)) 1 (some q_20)) 2 (some q_29)) 3 (some q_38)))))))) 4 (5 * cn + 0) (q_11, .inr (3, [.int 5, .int 0, .int (-1000), .int 400]))) 4 (5 * cn + 1) (q_20, .inr (3, [.int 5, .int 2, .int (-1000), .int 400]))) 4 (5 * cn + 2) (q_29, .inr (3, [.int 5, .int 3, .int (-1000), .int 400]))) 4 (5 * cn + 3) (q_38, .inr (3, [.int 5, .int 2, .int (-1000), .int 400]))) (mUp_self _ _ _ _) (fun j i h9 => (mUp_ne _ _ h9).trans (mUp_ne _ _ h9).symm) dX2_init_83 (fun H locs hM hS => ?_)
  refine lv_iinc (v := 4) (lv' := [(3, .int 4), (0, .ref q), (1, .ref o), (2, .int (nI cn))]) hx hb dX2_init_86 hl (k := 0) rfl ((by decide)) (by decide) rfl (fun ls hl => ?_)
  refine lv_goto (tgt := 35) hx hb dX2_init_89 (by decide) ?_
  refine lv_iload_n hx hb dX2_init_35 rfl (lv_at hl 0 rfl) ?_
  refine lv_iconst (v := 5) hx hb dX2_init_36 (by decide) ?_
  refine lv_icmp_ge (tgt := 92) hx hb dX2_init_37 (by decide) (fun c9 => absurd c9 (by decide)) (fun _ => ?_)
  refine lv_aload_n hx hb dX2_init_40 rfl (lv_at hl 1 rfl) ?_
  refine m_get hx hb hts in_X2 hown hE hM 2 cn ((mUp_ne _ _ (by omega)).trans ((mUp_ne _ _ (by omega)).trans ((mUp_ne _ _ (by omega)).trans ((mUp_ne _ _ (by omega)).trans ((mUp_ne _ _ (by omega)).trans (mUp_self _ _ _ _)))))) (ci := 2) rfl 1 (by decide) (hts _ q138) (fun _ h9 => h9) rfl dX2_init_41 ?_
  refine lv_iload_n hx hb dX2_init_44 rfl (lv_at hl 0 rfl) ?_
  refine m_new hx hb hts in_X3 tyX3 tyX3_ok hown (hts _ q106) (hts _ q108) (hts _ q40) hE hM hS hA 4 (5 * cn + 4) ((mUp_ne _ _ (by omega)).trans ((mUp_ne _ _ (by omega)).trans ((mUp_ne _ _ (by omega)).trans ((mUp_ne _ _ (by omega)).trans ((mUp_ne _ _ (by omega)).trans ((mUp_ne _ _ (by omega)).trans (h4 4 (by decide)))))))) (ci := 3) rfl (fs := [.int 0, .int 0, .int 0, .int 0]) la_fs (Nat.le_of_ble_eq_true rfl) (Nat.le_of_ble_eq_true rfl) dX2_init_45 (fun q_47 H h_q_47 hM hS => ?_)
  refine lv_dup hx hb dX2_init_48 rfl ?_
  refine m_cpv (m_rIN (As := []) (rest := [.ref q_47, .int 4, .ref r_3]) hcf (k_X3_init l g A (mUp (mUp (mUp (mUp (mUp (mUp (M) 2 cn (q, .inr (2, [.int (nI cn), .ref r_3, .int 100, .int 0, .int 0, .int 2, .int 0, .null, .ref o]))) 3 cn (r_3, .inl (g.2.1 4, 5, .inr (.inr (.inr (.inr (va_up (va_up (va_up (va_up (fun _ => none) 0 (some q_11)) 1 (some q_20)) 2 (some q_29)) 3 (some q_38)))))))) 4 (5 * cn + 0) (q_11, .inr (3, [.int 5, .int 0, .int (-1000), .int 400]))) 4 (5 * cn + 1) (q_20, .inr (3, [.int 5, .int 2, .int (-1000), .int 400]))) 4 (5 * cn + 2) (q_29, .inr (3, [.int 5, .int 3, .int (-1000), .int 400]))) 4 (5 * cn + 3) (q_38, .inr (3, [.int 5, .int 2, .int (-1000), .int 400]))) 4 (5 * cn + 4) q_47) ⟨va_cnB 0 hts (lw_meth q111) rfl rfl rfl (hE.nw 0 rfl) (hts _ q40) (by decide +kernel) ⟨Nat.le_of_ble_eq_true rfl, Nat.le_of_ble_eq_true rfl⟩, rfl, hts _ q110⟩ hE hA hM hS rfl hl.1 rfl (Nat.le_of_ble_eq_true rfl) dX2_init_49 ⟨Nat.le_of_ble_eq_true rfl, Nat.le_of_ble_eq_true rfl⟩) hS (fun H locs hM hS => ?_)
  refine m_aast hx hb hE hM hS 3 cn 4 4 (5 * cn + 4) 3 ((mUp_ne _ _ (by omega)).trans ((mUp_ne _ _ (by omega)).trans ((mUp_ne _ _ (by omega)).trans ((mUp_ne _ _ (by omega)).trans ((mUp_ne _ _ (by omega)).trans (mUp_self _ _ _ _)))))) rfl (mUp_self _ _ _ _) rfl 4 (by omega) (by decide) rfl (M' := mUp (mUp (mUp (mUp (mUp (mUp (mUp (M) 2 cn (q, .inr (2, [.int (nI cn), .ref r_3, .int 100, .int 0, .int 0, .int 2, .int 0, .null, .ref o]))) 3 cn (r_3, .inl (g.2.1 4, 5, .inr (.inr (.inr (.inr (va_up (va_up (va_up (va_up (va_up (fun _ => none) 0 (some q_11)) 1 (some q_20)) 2 (some q_29)) 3 (some q_38)) 4 (some q_47)))))))) 4 (5 * cn + 0) (q_11, .inr (3, [.int 5, .int 0, .int (-1000), .int 400]))) 4 (5 * cn + 1) (q_20, .inr (3, [.int 5, .int 2, .int (-1000), .int 400]))) 4 (5 * cn + 2) (q_29, .inr (3, [.int 5, .int 3, .int (-1000), .int 400]))) 4 (5 * cn + 3) (q_38, .inr (3, [.int 5, .int 2, .int (-1000), .int 400]))) 4 (5 * cn + 4) (q_47, .inr (3, [.int 5, .int 0, .int (-1000), .int 400]))) ((mUp_ne _ _ (by omega)).trans ((mUp_ne _ _ (by omega)).trans ((mUp_ne _ _ (by omega)).trans ((mUp_ne _ _ (by omega)).trans ((mUp_ne _ _ (by omega)).trans (mUp_self _ _ _ _)))))) (fun j i h9 => mUp_cong (fun j i h9 => mUp_cong (fun j i h9 => mUp_cong (fun j i h9 => mUp_cong (fun j i h9 => mUp_cong (fun j i h9 => (mUp_ne _ _ h9).trans (mUp_ne _ _ h9).symm) j i h9) j i h9) j i h9) j i h9) j i h9) dX2_init_52 (fun H locs hM hS => ?_)
  refine lv_aload_n hx hb dX2_init_53 rfl (lv_at hl 1 rfl) ?_
  refine m_get hx hb hts in_X2 hown hE hM 2 cn ((mUp_ne _ _ (by omega)).trans ((mUp_ne _ _ (by omega)).trans ((mUp_ne _ _ (by omega)).trans ((mUp_ne _ _ (by omega)).trans ((mUp_ne _ _ (by omega)).trans ((mUp_ne _ _ (by omega)).trans (mUp_self _ _ _ _))))))) (ci := 2) rfl 1 (by decide) (hts _ q138) (fun _ h9 => h9) rfl dX2_init_54 ?_
  refine lv_iload_n hx hb dX2_init_57 rfl (lv_at hl 0 rfl) ?_
  refine m_aald hx hb hE hM 3 cn 4 ((mUp_ne _ _ (by omega)).trans ((mUp_ne _ _ (by omega)).trans ((mUp_ne _ _ (by omega)).trans ((mUp_ne _ _ (by omega)).trans ((mUp_ne _ _ (by omega)).trans (mUp_self _ _ _ _)))))) rfl 4 (by omega) (by decide) rfl (v := .ref q_47) rfl dX2_init_58 ?_
  refine lv_iload_n hx hb dX2_init_59 rfl (lv_at hl 0 rfl) ?_
  refine lv_iconst (v := 1) hx hb dX2_init_60 (by decide) ?_
  refine lv_icmp_eq (tgt := 69) hx hb dX2_init_61 (by decide) (fun c9 => absurd c9 (by decide)) (fun _ => ?_)
  refine lv_iload_n hx hb dX2_init_64 rfl (lv_at hl 0 rfl) ?_
  refine lv_iconst (v := 3) hx hb dX2_init_65 (by decide) ?_
  refine lv_icmp_ne (tgt := 73) hx hb dX2_init_66 (by decide) (fun _ => ?_) (fun c9 => absurd c9 (by decide))
  refine lv_iload_n hx hb dX2_init_73 rfl (lv_at hl 0 rfl) ?_
  refine lv_iconst (v := 2) hx hb dX2_init_74 (by decide) ?_
  refine lv_icmp_ne (tgt := 82) hx hb dX2_init_75 (by decide) (fun _ => ?_) (fun c9 => absurd c9 (by decide))
  refine lv_iconst (v := 0) hx hb dX2_init_82 (by decide) ?_
  refine m_put hx hb hts in_X3 tyX3 tyX3_ok nmX3 hown hE hM hS 4 (5 * cn + 4) (mUp_self _ _ _ _) (ci := 3) rfl 1 (by decide) (hts _ q115) (fun _ h9 => h9) rfl (ty := .int) (by decide +kernel) rfl rfl (Nat.le_of_ble_eq_true rfl) (M' := mUp (mUp (mUp (mUp (mUp (mUp (mUp (M) 2 cn (q, .inr (2, [.int (nI cn), .ref r_3, .int 100, .int 0, .int 0, .int 2, .int 0, .null, .ref o]))) 3 cn (r_3, .inl (g.2.1 4, 5, .inr (.inr (.inr (.inr (va_up (va_up (va_up (va_up (va_up (fun _ => none) 0 (some q_11)) 1 (some q_20)) 2 (some q_29)) 3 (some q_38)) 4 (some q_47)))))))) 4 (5 * cn + 0) (q_11, .inr (3, [.int 5, .int 0, .int (-1000), .int 400]))) 4 (5 * cn + 1) (q_20, .inr (3, [.int 5, .int 2, .int (-1000), .int 400]))) 4 (5 * cn + 2) (q_29, .inr (3, [.int 5, .int 3, .int (-1000), .int 400]))) 4 (5 * cn + 3) (q_38, .inr (3, [.int 5, .int 2, .int (-1000), .int 400]))) 4 (5 * cn + 4) (q_47, .inr (3, [.int 5, .int 0, .int (-1000), .int 400]))) (mUp_self _ _ _ _) (fun j i h9 => (mUp_ne _ _ h9).trans (mUp_ne _ _ h9).symm) dX2_init_83 (fun H locs hM hS => ?_)
  refine lv_iinc (v := 5) (lv' := [(3, .int 5), (0, .ref q), (1, .ref o), (2, .int (nI cn))]) hx hb dX2_init_86 hl (k := 0) rfl ((by decide)) (by decide) rfl (fun ls hl => ?_)
  refine lv_goto (tgt := 35) hx hb dX2_init_89 (by decide) ?_
  refine lv_iload_n hx hb dX2_init_35 rfl (lv_at hl 0 rfl) ?_
  refine lv_iconst (v := 5) hx hb dX2_init_36 (by decide) ?_
  refine lv_icmp_ge (tgt := 92) hx hb dX2_init_37 (by decide) (fun _ => ?_) (fun c9 => absurd (by decide) c9)
  rw [← hQ]
  exact m_vret (r_3, fun l => if l = 0 then q_11 else if l = 1 then q_20 else if l = 2 then q_29 else if l = 3 then q_38 else q_47) hx hb hr hlk hM hS trivial (by first | decide | omega) (by first | decide | omega) dX2_init_92
