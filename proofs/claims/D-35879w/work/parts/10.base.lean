/-! MEMORY BY TWO INDICES (a kind, a number): what the claim's worlds are held by; rows over it. clW: the classes; amb: what holds of the tables and of the statics all through. -/
set_option maxRecDepth 100000
abbrev clW : List vw_C := [(RX1, TX1, 10), (RX4, TX4, 32), (RX2, TX2, 9), (RX3, TX3, 4), (RX5, TX5, 2), (RX6, TX6, 5), (RX7, TX7, 4), (RX8, TX8, 4), (RJ2, TJ2, 3), (RJ14, TJ14, 1)]
abbrev tysW (dA : Nat → ClassId) : List (ClassId × FieldType) := [(dA 0, .int), (dA 1, .long), (dA 2, .boolean), (dA 3, .object "Wakeground$Cell"), (dA 4, .object "Wakeground$Layer"), (dA 5, .object "java/lang/Object")]
abbrev GG : Type := va_G × (Nat → ClassId) × (Nat → Nat) × (Nat → Nat)
abbrev MM : Type := Nat → Nat → Option (Nat × va_E)
def mW (D : va_G) (A : Nat → Prop) (M : MM) (H : Heap) : Prop :=
  (∀ (k n : Nat) (q : Nat × va_E), M k n = some q → va_at D clW q H ∧ A q.1) ∧ ∀ (k n j i : Nat) (p q : Nat × va_E), M k n = some p → M j i = some q → p.1 = q.1 → k = j ∧ n = i
def mUp (M : MM) (k n : Nat) (q : Nat × va_E) : MM := fun j i => if j = k ∧ i = n then some q else M j i
theorem mUp_self (M : MM) (k n : Nat) (q : Nat × va_E) : mUp M k n q k n = some q := if_pos ⟨rfl, rfl⟩
theorem mUp_ne (M : MM) {k n j i : Nat} (q : Nat × va_E) (h : ¬ (j = k ∧ i = n)) : mUp M k n q j i = M j i := if_neg h
theorem mW.at {D : va_G} {A : Nat → Prop} {M : MM} {H : Heap} (h : mW D A M H) {k n : Nat} {q : Nat × va_E} (hk : M k n = some q) : va_at D clW q H := (h.1 k n q hk).1
theorem mW.inA {D : va_G} {A : Nat → Prop} {M : MM} {H : Heap} (h : mW D A M H) {k n : Nat} {q : Nat × va_E} (hk : M k n = some q) : A q.1 := (h.1 k n q hk).2
theorem mW.lt {D : va_G} {A : Nat → Prop} {M : MM} {H : Heap} (h : mW D A M H) {k n : Nat} {q : Nat × va_E} (hk : M k n = some q) : q.1 < H.size := (h.1 k n q hk).1.lt
theorem mW.one {D : va_G} {A : Nat → Prop} {M : MM} {H : Heap} (h : mW D A M H) {k n : Nat} {q : Nat × va_E} (hk : M k n = some q) : va_P D clW [q] H := by
  intro i x hx
  have hz : i < 1 := (List.getElem?_eq_some_iff.mp hx).1
  rw [show i = 0 by omega] at hx
  cases hx
  exact h.at hk
theorem mW.sub {D : va_G} {A : Nat → Prop} {M M' : MM} {H : Heap} (h : mW D A M H) (hs : ∀ (k n : Nat) (q : Nat × va_E), M' k n = some q → M k n = some q) : mW D A M' H :=
  ⟨fun k n q hk => h.1 k n q (hs k n q hk), fun k n j i x y hx hy e => h.2 k n j i x y (hs k n x hx) (hs j i y hy) e⟩
theorem mW.congr {D : va_G} {A : Nat → Prop} {M M' : MM} {H : Heap} (h : mW D A M H) (hs : ∀ (k n : Nat), M' k n = M k n) : mW D A M' H := h.sub (fun k n q hq => by rw [← hs]; exact hq)
theorem mW.set {D : va_G} {A : Nat → Prop} {M M' : MM} {H H1 : Heap} {k n a : Nat} {e0 e : va_E} (h : mW D A M H) (hk : M k n = some (a, e0)) (he : va_at D clW (a, e) H1) (oq : ∀ q : Nat, q ≠ a → H1[q]? = H[q]?) (h1 : M' k n = some (a, e)) (h2 : ∀ j i : Nat, ¬ (j = k ∧ i = n) → M' j i = M j i) : mW D A M' H1 := by
  have key : ∀ (j i : Nat) (q : Nat × va_E), M' j i = some q → ∃ q0, M j i = some q0 ∧ q0.1 = q.1 := by
    intro j i q hq
    by_cases hc : j = k ∧ i = n
    · obtain ⟨rfl, rfl⟩ := hc
      rw [h1] at hq
      cases hq
      exact ⟨_, hk, rfl⟩
    · rw [h2 j i hc] at hq
      exact ⟨q, hq, rfl⟩
  refine ⟨fun j i q hq => ?_, fun j i j2 i2 x y hx hy e => ?_⟩
  · by_cases hc : j = k ∧ i = n
    · obtain ⟨rfl, rfl⟩ := hc
      rw [h1] at hq
      cases hq
      exact ⟨he, (show A a from h.inA (q := (a, e0)) hk)⟩
    · rw [h2 j i hc] at hq
      refine ⟨(h.at hq).kept (oq q.1 (fun z => hc ?_)), h.inA hq⟩
      exact h.2 j i k n q (a, e0) hq hk z
  · obtain ⟨x0, g1, g2⟩ := key j i x hx
    obtain ⟨y0, g3, g4⟩ := key j2 i2 y hy
    exact h.2 j i j2 i2 x0 y0 g1 g3 (g2.trans (e.trans g4.symm))
theorem mW.kept {D : va_G} {A : Nat → Prop} {M : MM} {H H1 : Heap} (h : mW D A M H) (hq : ∀ (k n : Nat) (q : Nat × va_E), M k n = some q → H1[q.1]? = H[q.1]?) : mW D A M H1 :=
  ⟨fun k n q hk => ⟨(h.at hk).kept (hq k n q hk), h.inA hk⟩, h.2⟩
theorem mW.push {D : va_G} {A : Nat → Prop} {M : MM} {H H1 : Heap} (h : mW D A M H) (k n : Nat) {e : va_E} (hk : M k n = none) (oq : ∀ q : Nat, q < H.size → H1[q]? = H[q]?) (he : va_at D clW (H.size, e) H1) (hA : A H.size) : mW D A (mUp M k n (H.size, e)) H1 := by
  have key : ∀ (j i : Nat) (q : Nat × va_E), mUp M k n (H.size, e) j i = some q → (M j i = some q ∧ q.1 < H.size) ∨ (j = k ∧ i = n ∧ q = (H.size, e)) := by
    intro j i q hq
    by_cases hc : j = k ∧ i = n
    · obtain ⟨rfl, rfl⟩ := hc
      rw [mUp_self] at hq
      cases hq
      exact Or.inr ⟨rfl, rfl, rfl⟩
    · rw [mUp_ne _ _ hc] at hq
      exact Or.inl ⟨hq, h.lt hq⟩
  refine ⟨fun j i q hq => ?_, fun j i j2 i2 x y hx hy e => ?_⟩
  · rcases key j i q hq with ⟨g1, g2⟩ | ⟨rfl, rfl, rfl⟩
    · exact ⟨(h.at g1).kept (oq _ g2), h.inA g1⟩
    · exact ⟨he, hA⟩
  · rcases key j i x hx with ⟨g1, g2⟩ | ⟨rfl, rfl, rfl⟩ <;> rcases key j2 i2 y hy with ⟨g3, g4⟩ | ⟨rfl, rfl, rfl⟩
    · exact h.2 j i j2 i2 x y g1 g3 e
    · exact absurd (show x.1 = H.size from e) (by omega)
    · exact absurd (show H.size = y.1 from e) (by omega)
    · exact ⟨rfl, rfl⟩
/-- words of the tables that are no words of lw_all, that are carried -/
abbrev ambW : List Cond := [.methodLinkNest "Wakeground$Cell" 31 ⟨"Wakeground$Layer", "<init>", "()V"⟩ "Wakeground", .fieldLinkNest "Wakeground$Cell" 83 "Wakeground" "land" "[LWakeground$Cell;" "Wakeground", .fieldLinkNest "Wakeground$Cell" 105 "Wakeground" "gases" "[J" "Wakeground",
  .castable "java/lang/IndexOutOfBoundsException" "java/lang/IndexOutOfBoundsException", .castable "java/lang/IllegalArgumentException" "java/lang/IllegalArgumentException", .castable "java/lang/IllegalStateException" "java/lang/IllegalStateException",
  .castable "Wakeground$Cell" "java/lang/Object", .castable "Wakeground$Layer" "java/lang/Object", .castable "Wakeground$House" "java/lang/Object", .castable "Wakeground$Borehole" "java/lang/Object", .castable "Wakeground$Claim" "java/lang/Object", .castable "Wakeground$Around" "java/util/Iterator", .castable "[Ljava/lang/Object;" "java/lang/Object",
  .declares ⟨"java/lang/RuntimeException", "<init>", "()V"⟩, .declares ⟨"java/lang/RuntimeException", "<init>", "(Ljava/lang/String;)V"⟩, .declares ⟨"java/lang/Exception", "<init>", "()V"⟩, .declares ⟨"java/lang/Exception", "<init>", "(Ljava/lang/String;)V"⟩, .declares ⟨"java/lang/Throwable", "<init>", "()V"⟩, .declares ⟨"java/lang/Throwable", "<init>", "(Ljava/lang/String;)V"⟩, .declares ⟨"java/lang/IndexOutOfBoundsException", "<init>", "()V"⟩, .declares ⟨"java/lang/IndexOutOfBoundsException", "<init>", "(Ljava/lang/String;)V"⟩, .declares ⟨"java/lang/Object", "equals", "(Ljava/lang/Object;)Z"⟩, .declares ⟨"java/lang/Object", "getClass", "()Ljava/lang/Class;"⟩]
def ambT (g : GG) (A : Nat → Prop) (U : State) (H : Heap) : Prop :=
  vb_C g.2.2.1 A U H ∧ va_Z "java/lang/Integer$IntegerCache" "cache" "[Ljava/lang/Integer;" (.ref (g.2.2.2 0)) A U H ∧ va_T (.object "java/lang/Integer") (g.2.2.2 0) 256 (fun j => .ref (g.2.2.1 j)) A U H ∧ va_Z "java/lang/Integer$IntegerCache" "high" "I" (.int 127) A U H ∧
  va_Z "Wakeground$Around" "BY_ROW" "[I" (.ref (g.2.2.2 1)) A U H ∧ va_T .int (g.2.2.2 1) 4 (fun j => .int (if j = 0 then -1 else if j = 3 then 1 else 0)) A U H ∧
  va_Z "Wakeground$Around" "BY_COLUMN" "[I" (.ref (g.2.2.2 2)) A U H ∧ va_T .int (g.2.2.2 2) 4 (fun j => .int (if j = 1 then -1 else if j = 2 then 1 else 0)) A U H ∧
  va_Z "java/util/ArrayList" "DEFAULTCAPACITY_EMPTY_ELEMENTDATA" "[Ljava/lang/Object;" (.ref (g.2.2.2 3)) A U H ∧ va_T (.object "java/lang/Object") (g.2.2.2 3) 0 (fun _ => .null) A U H ∧
  vx_Zq Bundle.tN "UNASSIGNED_STACK" Bundle.steD A U H ∧ vx_Zq Bundle.tN "SUPPRESSED_SENTINEL" Bundle.listD A U H
theorem ambT.moved {g : GG} {A : Nat → Prop} {u U : State} {H : Heap} (hvm : u.vm.Alike U.vm) (h : ambT g A u H) : ambT g A U H := by
  obtain ⟨h1, h2, h3, h4, h5, h6, h7, h8, h9, h10, h11, h12⟩ := h
  exact ⟨vb_C.moved hvm h1, va_Z.moved hvm h2, va_T.moved hvm h3, va_Z.moved hvm h4, va_Z.moved hvm h5, va_T.moved hvm h6, va_Z.moved hvm h7, va_T.moved hvm h8, va_Z.moved hvm h9, va_T.moved hvm h10, vx_Zq.moved hvm h11, vx_Zq.moved hvm h12⟩
theorem ambT.kept {g : GG} {A : Nat → Prop} {U : State} {H H1 : Heap} (h : ambT g A U H) (hq : ∀ a : Nat, a < H.size → ¬ A a → H1[a]? = H[a]?) : ambT g A U H1 := by
  obtain ⟨h1, h2, h3, h4, h5, h6, h7, h8, h9, h10, h11, h12⟩ := h
  exact ⟨h1.kept hq, h2.kept hq, h3.kept hq, h4.kept hq, h5.kept hq, h6.kept hq, h7.kept hq, h8.kept hq, h9.kept hq, h10.kept hq, h11.kept hq, h12.kept hq⟩
/-- the string constants -/
def ambS (g : GG) (U : State) : Prop := vk_R "Wakeground" 52 "number" (g.2.2.2 4) U ∧ vk_R "Wakeground" 59 "range" (g.2.2.2 5) U ∧ vk_R "Wakeground" 64 "state" (g.2.2.2 6) U
theorem ambS.same {g : GG} {u U : State} (hv : U.vm = u.vm) (h : ambS g u) : ambS g U := ⟨vk_R.same hv h.1, vk_R.same hv h.2.1, vk_R.same hv h.2.2⟩
theorem ambS.warm {g : GG} {s U : State} (hW : s.WarmedH U.vm) (h : ambS g s) : ambS g U := ⟨vk_R.warm hW h.1, vk_R.warm hW h.2.1, vk_R.warm hW h.2.2⟩
theorem ambW_ot : ∀ w ∈ ambW, w.onTables = true := by decide
theorem ambW_warm {s U : State} (hW : s.WarmedH U.vm) (h : ∀ w ∈ ambW, va_Nw w s) : ∀ w ∈ ambW, va_Nw w U := by
  intro w hw
  have h0 := h w hw
  simp only [ambW, List.mem_cons, List.not_mem_nil, or_false] at hw
  rcases hw with rfl | rfl | rfl | rfl | rfl | rfl | rfl | rfl | rfl | rfl | rfl | rfl | rfl | rfl | rfl | rfl | rfl | rfl | rfl | rfl | rfl | rfl | rfl
  · exact va_Nw.warmM hW h0
  · exact va_Nw.warmF hW h0
  · exact va_Nw.warmF hW h0
  all_goals first | exact va_Nw.warmC hW h0 | exact va_Nw.warmD hW h0
/-- words of the inherited default methods (good words, but none of the tables') -/
abbrev dflW : List Cond := [.methodLink "Wakeground$House" 29 ⟨"Wakeground$House", "isThawedAt", "(I)Z"⟩, .sameMethod "Wakeground$House" "Wakeground$Placed" "isThawedAt" "(I)Z", .methodLink "Wakeground$Borehole" 26 ⟨"Wakeground$Borehole", "at", "(I)I"⟩, .sameMethod "Wakeground$Borehole" "Wakeground$Placed" "at" "(I)I",
  .methodLink "Wakeground" 221 ⟨"Wakeground$Borehole", "isWith", "(LWakeground$Placed;)Z"⟩, .sameMethod "Wakeground$Borehole" "Wakeground$Placed" "isWith" "(LWakeground$Placed;)Z"]
theorem dflW_good : ∀ w ∈ dflW, goodWord w = true := by decide
theorem dflW_ot : ∀ w ∈ dflW, w.onTables = true := by decide
/-- where calls of inherited default methods land -/
abbrev dldW : List (String × MethodName × MethodName) := [("Wakeground$House", ⟨"Wakeground$House", "isThawedAt", "(I)Z"⟩, ⟨"Wakeground$Placed", "isThawedAt", "(I)Z"⟩), ("Wakeground$Borehole", ⟨"Wakeground$Borehole", "at", "(I)I"⟩, ⟨"Wakeground$Placed", "at", "(I)I"⟩), ("Wakeground$Borehole", ⟨"Wakeground$Borehole", "isWith", "(LWakeground$Placed;)Z"⟩, ⟨"Wakeground$Placed", "isWith", "(LWakeground$Placed;)Z"⟩)]
def dldH (q : String × MethodName × MethodName) (U : State) : Prop := (∀ (Z : State) (a : Array Value), Z.vm = U.vm → (Cond.landsInDefault q.1 q.2.1 q.2.2).before a Z = true) ∧ va_Nw (.declares q.2.2) U
theorem dldH.warm {q : String × MethodName × MethodName} {s U : State} (hW : s.WarmedH U.vm) (h : dldH q s) : dldH q U := by
  refine ⟨fun Z a hZ => ?_, va_Nw.warmD hW h.2⟩
  have h1 : (Cond.landsInDefault q.1 q.2.1 q.2.2).before a ((Z.setVm s.vm).setVm U.vm) = (Cond.landsInDefault q.1 q.2.1 q.2.2).before #[] (Z.setVm s.vm) := Cond.landsInDefault_setVm (s := Z.setVm s.vm) hW.alike (State.methodFound?_setVm (s := Z.setVm s.vm) hW.alike _ _ _)
  have h2 : (Z.setVm s.vm).setVm U.vm = Z := by rw [← hZ]; rfl
  rw [h2] at h1
  rw [h1]
  exact h.1 _ _ rfl
theorem dldH.same {q : String × MethodName × MethodName} {u U : State} (hv : U.vm = u.vm) (h : dldH q u) : dldH q U := ⟨fun Z a hZ => h.1 Z a (hZ.trans hv), va_Nw.same rfl hv.symm h.2⟩
def ambX (g : GG) (U : State) : Prop :=
  va_Fw "Wakeground$Around" ⟨"java/util/Iterator", "hasNext", "()Z"⟩ ⟨"Wakeground$Around", "hasNext", "()Z"⟩ U ∧ va_Fw "Wakeground$Around" ⟨"java/util/Iterator", "next", "()Ljava/lang/Object;"⟩ ⟨"Wakeground$Around", "next", "()Ljava/lang/Object;"⟩ U ∧
  va_Fw "Wakeground$House" ⟨"Wakeground$Placed", "cell", "()LWakeground$Cell;"⟩ ⟨"Wakeground$House", "cell", "()LWakeground$Cell;"⟩ U ∧ va_Fw "Wakeground$Borehole" ⟨"Wakeground$Placed", "cell", "()LWakeground$Cell;"⟩ ⟨"Wakeground$Borehole", "cell", "()LWakeground$Cell;"⟩ U ∧
  va_Nc "java/lang/IllegalArgumentException" "java/lang/IndexOutOfBoundsException" U ∧ va_Nc "java/lang/IllegalStateException" "java/lang/IndexOutOfBoundsException" U ∧ va_Nc "java/lang/IllegalStateException" "java/lang/IllegalArgumentException" U ∧
  va_Mi "[Ljava/lang/Object;" (g.2.2.2 7) U ∧ (∀ w ∈ dflW, va_Nw w U) ∧ ∀ q ∈ dldW, dldH q U
theorem ambX.warm {g : GG} {s U : State} (hW : s.WarmedH U.vm) (h : ambX g s) : ambX g U := by
  obtain ⟨h1, h2, h3, h4, h5, h6, h7, h8, h9, h10⟩ := h
  exact ⟨va_Fw.moved (by decide) hW.alike h1, va_Fw.moved (by decide) hW.alike h2, va_Fw.moved (by decide) hW.alike h3, va_Fw.moved (by decide) hW.alike h4, va_Nc.moved hW.alike h5, va_Nc.moved hW.alike h6, va_Nc.moved hW.alike h7, va_Mi.moved hW.alike h8, fun w hw => word_at hW (good_of_word (dflW_good w hw)) (h9 w hw), fun q hq => (h10 q hq).warm hW⟩
theorem ambX.same {g : GG} {u U : State} (hv : U.vm = u.vm) (h : ambX g u) : ambX g U := by
  have ha : u.vm.Alike U.vm := by rw [hv]; exact Vm.Alike.refl u.vm
  obtain ⟨h1, h2, h3, h4, h5, h6, h7, h8, h9, h10⟩ := h
  exact ⟨va_Fw.moved (by decide) ha h1, va_Fw.moved (by decide) ha h2, va_Fw.moved (by decide) ha h3, va_Fw.moved (by decide) ha h4, va_Nc.moved ha h5, va_Nc.moved ha h6, va_Nc.moved ha h7, va_Mi.moved ha h8, fun w hw => va_Nw.same (dflW_ot w hw) hv.symm (h9 w hw), fun q hq => (h10 q hq).same hv⟩
def amb (g : GG) (A : Nat → Prop) (U : State) (H : Heap) : Prop :=
  va_K g.1 clW (tysW g.2.1) U ∧ ambT g A U H ∧ ambS g U ∧ (∀ w ∈ ambW, va_Nw w U) ∧ va_AO "Wakeground$Cell" U ∧ va_AO "Wakeground$Layer" U ∧ va_AO "java/lang/Object" U ∧ ambX g U
theorem amb.warm {g : GG} {A : Nat → Prop} {s U : State} {H : Heap} (hW : s.WarmedH U.vm) (h : amb g A s H) : amb g A U H := by
  obtain ⟨h1, h2, h3, h4, h5, h6, h7, h8⟩ := h
  exact ⟨va_K.moved hW.alike h1, ambT.moved hW.alike h2, ambS.warm hW h3, ambW_warm hW h4, va_AO.moved hW.alike h5, va_AO.moved hW.alike h6, va_AO.moved hW.alike h7, h8.warm hW⟩
theorem amb.same {g : GG} {A : Nat → Prop} {u U : State} {H : Heap} (hv : U.vm = u.vm) (h : amb g A u H) : amb g A U H := by
  obtain ⟨h1, h2, h3, h4, h5, h6, h7, h8⟩ := h
  have ha : u.vm.Alike U.vm := by rw [hv]; exact Vm.Alike.refl u.vm
  exact ⟨va_K.moved ha h1, ambT.moved ha h2, ambS.same hv h3, fun w hw => va_Nw.same (ambW_ot w hw) hv.symm (h4 w hw), va_AO.moved ha h5, va_AO.moved ha h6, va_AO.moved ha h7, h8.same hv⟩
theorem amb.kept {g : GG} {A : Nat → Prop} {U : State} {H H1 : Heap} (h : amb g A U H) (hq : ∀ a : Nat, a < H.size → ¬ A a → H1[a]? = H[a]?) : amb g A U H1 := by
  obtain ⟨h1, h2, h3⟩ := h
  exact ⟨h1, h2.kept hq, h3⟩
theorem amb.narrow {g : GG} {A B : Nat → Prop} {U : State} {H : Heap} (h : amb g A U H) (hAB : ∀ q, B q → A q) : amb g B U H := by
  obtain ⟨k1, ⟨h1, h2, h3, h4, h5, h6, h7, h8, h9, h10, h11, h12⟩, k3⟩ := h
  exact ⟨k1, ⟨h1.narrow hAB, h2.narrow hAB, h3.narrow hAB, h4.narrow hAB, h5.narrow hAB, h6.narrow hAB, h7.narrow hAB, h8.narrow hAB, h9.narrow hAB, h10.narrow hAB, h11.narrow hAB, h12.narrow hAB⟩, k3⟩
theorem amb.nw {g : GG} {A : Nat → Prop} {U : State} {H : Heap} (h : amb g A U H) {w : Cond} (k : Nat) (hk : ambW[k]? = some w) : va_Nw w U := h.2.2.2.1 w (List.mem_of_getElem? hk)
theorem amb.X {g : GG} {A : Nat → Prop} {U : State} {H : Heap} (h : amb g A U H) : ambX g U := h.2.2.2.2.2.2.2
/-- the default methods' words beside all others, for a call -/
theorem amb.df {g : GG} {A : Nat → Prop} {U : State} {H : Heap} {args : Array Value} (h : amb g A U H) (hts : ∀ w ∈ lw_all, w.before args U = true) : ∀ w ∈ dflW ++ lw_all, w.before args U = true := by
  intro w hw
  rcases List.mem_append.mp hw with h1 | h1
  · exact va_Nw.use (dflW_ot w h1) (h.X.2.2.2.2.2.2.2.2.1 w h1)
  · exact hts w h1
theorem df_good {ws : List Cond} (h : ∀ w ∈ ws, w ∈ dflW ∨ w ∈ lw_all) : GoodIn (dflW ++ lw_all) ws := by
  intro w hw
  rcases h w hw with h1 | h1
  · exact ⟨List.mem_append_left _ h1, good_of_word (dflW_good w h1)⟩
  · exact ⟨List.mem_append_right _ h1, (lw_self w h1).2⟩
/-- where a call of a default method lands -/
theorem amb.dld {g : GG} {A : Nat → Prop} {U : State} {H : Heap} (h : amb g A U H) {q : String × MethodName × MethodName} (k : Nat) (hk : dldW[k]? = some q) : dldH q U := h.X.2.2.2.2.2.2.2.2.2 q (List.mem_of_getElem? hk)
/-- where a contract of ours starts: the tables, a memory, and all that is new is ours -/
def mPre (g : GG) (A : Nat → Prop) (M : MM) : State → Prop := fun U => amb g A U U.heap ∧ mW g.1 A M U.heap ∧ ∀ q : Nat, U.heap.size ≤ q → A q
theorem mPre_blind {g : GG} {A : Nat → Prop} {M : MM} (av : List Value) : FrameBlind (va_Pc av (mPre g A M)) := by
  intro a U fr mk q
  obtain ⟨q0, q1, q2, q3⟩ := q
  exact ⟨q0, amb.same (u := U) (U := U.calling fr mk a) rfl q1, q2, q3⟩
theorem mPre_at {g : GG} {A : Nat → Prop} {M : MM} {s : State} {H : Heap} {locs : List Loc} (hE : amb g A s s.heap) (hA : ∀ q : Nat, s.heap.size ≤ q → A q) (hM : mW g.1 A M H) (hS : va_S A s.heap H locs) (av : List Value) : ∀ U : State, U.heap = H → s.WarmedH U.vm → va_Pc av (mPre g A M) av.toArray U := by
  intro U hU hW
  refine ⟨rfl, ?_, by rw [hU]; exact hM, fun q hq => hA q (Nat.le_trans hS.1 (by rw [← hU]; exact hq))⟩
  rw [hU]
  exact (hE.kept hS.2.1).warm hW
theorem m_recv {s : State} {H : Heap} {g : GG} {A : Nat → Prop} {M : MM} {H0 : Heap} {k n a ci : Nat} {q : vw_C} {fs : List Value} (hE : amb g A s H0) (hM : mW g.1 A M H) (he : M k n = some (a, .inr (ci, fs))) (hc : clW[ci]? = some q) : ∃ cell : Cell, H[a]? = some cell ∧ cell.vm.isStatics = false ∧ s.vm.findClass q.1 = some cell.cls :=
  va_recv hE.1 (hM.one he) (q0 := 0) hc rfl
