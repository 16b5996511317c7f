/-! CALLS of the default methods of Placed -/
set_option maxRecDepth 100000
section DEF
variable {p : Program} {l : Launch} {e : Env} {R : Room} {s : State} {m : MethodId} {args : Array Value} {below : List Frame} {meth : Method} {c : Code} {H : Heap} {locs : List Loc} {cells slots : Nat} {Q : State → Prop}
variable {cc bytes : ByteArray} {pc mc ms n nL maxL index ci : Nat} {ls : Array Slot} {rest st As : List Value} {g : GG} {A : Nat → Prop} {a b : Nat} {M : MM} {x y : MethodName} {ret : Option FieldType} {ws ws' : List Cond} {rm : Room} {own C owner : String} {Qc : Array Value → State → Outcome → State → Prop}
theorem m_rD (S : CallFix p m c cc nL s args lw_all own) (hMet : Met l y ws rm (va_Pc (.ref b :: As) (mPre g A M)) Qc mc ms A) (n : Nat) (hlink : (Cond.methodLink own index x).before args s = true) (hsame : (Cond.sameMethod x.cls owner x.name x.desc).before args s = true) (hy : y = ⟨owner, x.name, x.desc⟩) (hland : dldH (C, x, y) s) (hinst : Cond.instanceMethod y ∈ lw_all) (hini : Cond.initialized y.cls ∈ lw_all) (hG : GoodIn lw_all ws) (hw : ws = Cond.code y bytes maxL ret :: ws')
    (hd : owner ≠ "java/lang/invoke/MethodHandle" ∧ owner ≠ "java/lang/invoke/VarHandle" ∧ (parseMethodDescriptor x.desc).map (fun d => d.parameters.length) = some n) (hrc : rm.cells = mc) (hrs : rm.slots = ms) (hR : rm.frames + 1 ≤ R.frames ∧ 8 + (maxL + 11) + rm.locals ≤ R.locals)
    (hE : amb g A s s.heap) (hA : ∀ q : Nat, s.heap.size ≤ q → A q) (hM : mW g.1 A M H) (hS : va_S A s.heap H locs) (k0 n0 : Nat) {T : u_T} {N : Nat} {fs : List Value} (he : M k0 n0 = some (b, .inr (ci, fs))) (hc : clW[ci]? = some (C, T, N))
    (hn : As.length = n) (hsize : ls.size = nL) (hst : st = As.reverse ++ .ref b :: rest) (hW : (rest.map fun v => v.category).sum ≤ 8) (hdg : decode cc pc = .ok (.invokevirtual index, 3)) (hf : cells + mc ≤ R.cells ∧ slots + ms ≤ R.slots) :
    va_Run p l e R s m args below meth c H locs cells slots mc ms (F0 m pc ls st) rest (Qc (Value.ref b :: As).toArray) A := by
  obtain ⟨hx, hb, hml, hown, hts⟩ := S
  have hp : PreV s H C b (va_Pc (.ref b :: As) (mPre g A M)) As := ⟨mPre_blind _, m_recv hE hM he hc, mPre_at hE hA hM hS _⟩
  have hcw : Cond.code y bytes maxL ret ∈ ws := by rw [hw]; exact List.mem_cons_self
  have hK : Back l R p e below s args y 3 8 (PreOf R mc ms (va_Pc (.ref b :: As) (mPre g A M))) (PostOf Qc mc ms A) := back_of (bytes := bytes) (maxL := maxL) (ret := ret) hMet hp.1 hrc hrs hR.1 hR.2 (pay_in hts hG) hcw (fun a' U hW => word_at hW (lw_self _ hini).2 (hts _ hini))
  obtain ⟨-, ⟨cellB, hcB, hoB, hclB⟩, hPc⟩ := hp
  intro Z hZ X
  have hlen : ∀ sig, parseMethodDescriptor x.desc = some sig → As.length = sig.parameters.length := by
    intro sig h
    have h2 := hd.2.2
    rw [h] at h2
    exact hn.trans (Option.some.inj h2).symm
  obtain ⟨v, vm1, ⟨U', l2, c2, s2⟩, hW1, X', ⟨g', mk, t, L, e1, e2, hq, h1, hL, h2, h3⟩, stp⟩ := Stand.virtualBackUpD X hx (C := C) (owner := owner) (x := x) (y := y) hown hlink hsame (by rw [← hy]; exact va_Nw.use rfl hland.2) ⟨hd.1, hd.2.1⟩ (hland.1 s args rfl) (hts _ hinst) hK (cB := cellB.cls) hclB ⟨cellB, by rw [hZ]; exact hcB, rfl, hoB⟩ (g := F0 m pc ls st) rfl (hsize.trans hml.symm) (Steps.refl _) (argsL := As) (rest := rest) hlen hst (lv_room hW) (by rw [hb]; exact hdg) (fun vm1 hW1 => ⟨hf.1, hf.2, hPc (Z.setVm vm1) hZ hW1⟩)
  dsimp only [Pt.U, Pt.locs, Pt.cells, Pt.slots] at X' e1 e2 h1 h2 h3 stp
  subst h1; subst h2; subst h3
  exact ⟨v, (Z.setVm vm1).calling g' mk (Value.ref b :: As).toArray, t, U', L, hZ, X', hL, e1, e2, hq, fun target h => stp.trans h⟩
end DEF
