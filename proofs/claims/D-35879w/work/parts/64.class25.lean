/-! THE LAW'S OWN WALK, op by op: what is owed of class and reference is an Op_.. each *-/
set_option maxRecDepth 100000
def rmOK (rm : Room) (mc ms : Nat) : Prop := rm.cells = mc ∧ rm.slots = ms ∧ rm.frames ≤ 20 ∧ rm.locals ≤ 4000 ∧ mc ≤ 700 ∧ ms ≤ 3300
def ClsW (l : Launch) (g : GG) (y : MethodName) (cc : ByteArray) (maxL : Nat) (hh : List (Nat × Nat × Nat × Nat)) (As : Nat → Nat → List Value) (z : St) (kc : Int32) (o : Int64 → Int64) (x1 : St) : Prop :=
  ∀ (ad : Nat → Nat → Nat) (oa : Nat) (v : Int64), ∃ (rm : Room) (mc ms : Nat), rmOK rm mc ms ∧ ∀ A, Met l y (wsW_ y cc maxL (some .int) hh) rm (va_Pc (As (ad 0 0) oa) (mPre g A (cwM g ad (Mo g oa v) z))) (va_Qi (fun (r : Int32) (ad2 : Nat → Nat → Nat) => r = kc ∧ ad2 0 0 = ad 0 0) (fun ad2 t => mW g.1 A (cwM g ad2 (Mo g oa (o v)) x1) t.heap) A) mc ms A
def rmOM (rm : Room) (mc ms : Nat) : Prop := rm.cells = mc ∧ rm.slots = ms ∧ rm.frames ≤ 20 ∧ rm.locals ≤ 4000 ∧ mc ≤ 50 ∧ ms ≤ 50
def ClsD (l : Launch) (g : GG) (y : MethodName) (cc : ByteArray) (maxL : Nat) (z : St) (bv : Int32) (x1 : St) : Prop :=
  ∀ (ad : Nat → Nat → Nat) (oa : Nat) (v : Int64), ∃ (rm : Room) (mc ms : Nat), rmOK rm mc ms ∧ ∀ A, Met l y (ws_ y cc maxL (some .int)) rm (va_Pc [.ref (ad 0 0)] (mPre g A (cwM g ad (Mo g oa v) z))) (pQi g A bv (cwM g ad (Mo g oa v) x1)) mc ms A
def ModI (l : Launch) (g : GG) (y : MethodName) (cc : ByteArray) (maxL : Nat) (As : List Value) (z : St) (bv : Int32) (y1 : St) : Prop :=
  ∀ adm : Nat → Nat → Nat, ∃ (rm : Room) (mc ms : Nat), rmOM rm mc ms ∧ ∀ A, Met l y (ws_ y cc maxL (some .int)) rm (va_Pc (.ref (adm 30 0) :: As) (mPre g A (mwM g adm z))) (pQi g A bv (mwM g adm y1)) mc ms A
def ModL (l : Launch) (g : GG) (y : MethodName) (cc : ByteArray) (maxL : Nat) (As : List Value) (z : St) (bv : Int64) (y1 : St) : Prop :=
  ∀ adm : Nat → Nat → Nat, ∃ (rm : Room) (mc ms : Nat), rmOM rm mc ms ∧ ∀ A, Met l y (ws_ y cc maxL (some .long)) rm (va_Pc (.ref (adm 30 0) :: As) (mPre g A (mwM g adm z))) (pQl g A bv (mwM g adm y1)) mc ms A
def ModV (l : Launch) (g : GG) (y : MethodName) (cc : ByteArray) (maxL : Nat) (As : List Value) (z y1 : St) : Prop :=
  ∀ adm : Nat → Nat → Nat, ∃ (rm : Room) (mc ms : Nat), rmOM rm mc ms ∧ ∀ A, Met l y (ws_ y cc maxL none) rm (va_Pc (.ref (adm 30 0) :: As) (mPre g A (mwM g adm z))) (pQv g A (mwM g adm y1)) mc ms A
theorem lg_same (a : Int64) : lg_cmp a a = 0 := by
  unfold lg_cmp
  simp
def Op_ground (l : Launch) (g : GG) (Inv I2 : St → Prop) : Prop := ∀ z, Inv z → ∀ (a0 a1 a2 a3 a4 a5 : Int32), ∃ (kc : Int32) (x1 y1 : St), ClsW l g yX0_ground cX0_ground 8 [(0, 13, 16, 13), (0, 13, 20, 15)] (fun xr oa => [.ref xr, .int a0, .int a1, .int a2, .int a3, .int a4, .int a5]) z kc (fun v => v) x1 ∧ ModV l g yX4_ground cX4_ground 10 [.int a0, .int a1, .int a2, .int a3, .int a4, .int a5] z y1 ∧ y1.1 0 0 = kc ∧ agr x1 y1 ∧ I2 (mrg x1 y1)
def Op_moss (l : Launch) (g : GG) (Inv I2 : St → Prop) : Prop := ∀ z, Inv z → ∀ (a0 a1 : Int32), ∃ (kc : Int32) (o : Int64 → Int64) (bv : Int32) (x1 y1 : St), ClsW l g yX0_moss cX0_moss 5 [(0, 10, 13, 13), (0, 10, 17, 15)] (fun xr oa => [.ref xr, .int a0, .int a1, .ref oa]) z kc o x1 ∧ ModI l g yX4_moss cX4_moss 4 [.int a0, .int a1] z bv y1 ∧ y1.1 0 0 = kc ∧ (kc = 0 → ∀ v, o v = bv.toInt64) ∧ agr x1 y1 ∧ I2 (mrg x1 y1)
def Op_pass (l : Launch) (g : GG) (Inv I2 : St → Prop) : Prop := ∀ z, Inv z → ∀ (a0 a1 a2 : Int32), ∃ (kc : Int32) (o : Int64 → Int64) (bv : Int32) (x1 y1 : St), ClsW l g yX0_pass cX0_pass 6 [(0, 12, 15, 15), (0, 12, 19, 25)] (fun xr oa => [.ref xr, .int a0, .int a1, .int a2, .ref oa]) z kc o x1 ∧ ModI l g yX4_pass cX4_pass 6 [.int a0, .int a1, .int a2] z bv y1 ∧ y1.1 0 0 = kc ∧ (kc = 0 → ∀ v, o v = bv.toInt64) ∧ agr x1 y1 ∧ I2 (mrg x1 y1)
def Op_fire (l : Launch) (g : GG) (Inv I2 : St → Prop) : Prop := ∀ z, Inv z → ∀ (a0 : Int32), ∃ (kc : Int32) (o : Int64 → Int64) (bv : Int32) (x1 y1 : St), ClsW l g yX0_fire cX0_fire 4 [(0, 9, 12, 13), (0, 9, 15, 25)] (fun xr oa => [.ref xr, .int a0, .ref oa]) z kc o x1 ∧ ModI l g yX4_fire cX4_fire 4 [.int a0] z bv y1 ∧ y1.1 0 0 = kc ∧ (kc = 0 → ∀ v, o v = bv.toInt64) ∧ agr x1 y1 ∧ I2 (mrg x1 y1)
def Op_breach (l : Launch) (g : GG) (Inv I2 : St → Prop) : Prop := ∀ z, Inv z → ∀ (a0 : Int32), ∃ (kc : Int32) (o : Int64 → Int64) (bv : Int32) (x1 y1 : St), ClsW l g yX0_breach cX0_breach 4 [(0, 9, 12, 13), (0, 9, 15, 25)] (fun xr oa => [.ref xr, .int a0, .ref oa]) z kc o x1 ∧ ModI l g yX4_breach cX4_breach 6 [.int a0] z bv y1 ∧ y1.1 0 0 = kc ∧ (kc = 0 → ∀ v, o v = bv.toInt64) ∧ agr x1 y1 ∧ I2 (mrg x1 y1)
def Op_house (l : Launch) (g : GG) (Inv I2 : St → Prop) : Prop := ∀ z, Inv z → ∀ (a0 a1 a2 : Int32) (_ : a2 = 0 ∨ a2 = 1), ∃ (kc : Int32) (o : Int64 → Int64) (bv : Int32) (x1 y1 : St), ClsW l g yX0_house cX0_house 6 [(0, 12, 15, 13), (0, 12, 19, 25)] (fun xr oa => [.ref xr, .int a0, .int a1, .int a2, .ref oa]) z kc o x1 ∧ ModI l g yX4_house cX4_house 5 [.int a0, .int a1, .int a2] z bv y1 ∧ y1.1 0 0 = kc ∧ (kc = 0 → ∀ v, o v = bv.toInt64) ∧ agr x1 y1 ∧ I2 (mrg x1 y1)
def Op_borehole (l : Launch) (g : GG) (Inv I2 : St → Prop) : Prop := ∀ z, Inv z → ∀ (a0 a1 : Int32), ∃ (kc : Int32) (o : Int64 → Int64) (bv : Int32) (x1 y1 : St), ClsW l g yX0_borehole cX0_borehole 5 [(0, 10, 13, 13), (0, 10, 17, 15), (0, 10, 21, 25)] (fun xr oa => [.ref xr, .int a0, .int a1, .ref oa]) z kc o x1 ∧ ModI l g yX4_borehole cX4_borehole 3 [.int a0, .int a1] z bv y1 ∧ y1.1 0 0 = kc ∧ (kc = 0 → ∀ v, o v = bv.toInt64) ∧ agr x1 y1 ∧ I2 (mrg x1 y1)
def Op_claim (l : Launch) (g : GG) (Inv I2 : St → Prop) : Prop := ∀ z, Inv z → ∀ (a0 : Int32), ∃ (kc : Int32) (o : Int64 → Int64) (bv : Int32) (x1 y1 : St), ClsW l g yX0_claim cX0_claim 4 [(0, 9, 12, 13), (0, 9, 15, 25)] (fun xr oa => [.ref xr, .int a0, .ref oa]) z kc o x1 ∧ ModI l g yX4_claim cX4_claim 3 [.int a0] z bv y1 ∧ y1.1 0 0 = kc ∧ (kc = 0 → ∀ v, o v = bv.toInt64) ∧ agr x1 y1 ∧ I2 (mrg x1 y1)
def Op_month (l : Launch) (g : GG) (Inv I2 : St → Prop) : Prop := ∀ z, Inv z → ∃ (bv : Int32) (x1 y1 : St), ClsD l g yX1_month cX1_month 1 z bv x1 ∧ ModI l g yX4_month cX4_month 1 [] z bv y1 ∧ agr x1 y1 ∧ I2 (mrg x1 y1)
def Op_cellOf (l : Launch) (g : GG) (Inv I2 : St → Prop) : Prop := ∀ z, Inv z → ∀ (a0 a1 : Int32), ∃ (kc : Int32) (o : Int64 → Int64) (bv : Int32) (x1 y1 : St), ClsW l g yX0_cellOf cX0_cellOf 5 [(0, 10, 13, 13), (0, 10, 17, 15)] (fun xr oa => [.ref xr, .int a0, .int a1, .ref oa]) z kc o x1 ∧ ModI l g yX4_cellOf cX4_cellOf 3 [.int a0, .int a1] z bv y1 ∧ y1.1 0 0 = kc ∧ (kc = 0 → ∀ v, o v = bv.toInt64) ∧ agr x1 y1 ∧ I2 (mrg x1 y1)
def Op_layerOf (l : Launch) (g : GG) (Inv I2 : St → Prop) : Prop := ∀ z, Inv z → ∀ (a0 a1 a2 : Int32), ∃ (kc : Int32) (o : Int64 → Int64) (bv : Int32) (x1 y1 : St), ClsW l g yX0_layerOf cX0_layerOf 6 [(0, 12, 15, 13), (0, 12, 19, 15)] (fun xr oa => [.ref xr, .int a0, .int a1, .int a2, .ref oa]) z kc o x1 ∧ ModI l g yX4_layerOf cX4_layerOf 6 [.int a0, .int a1, .int a2] z bv y1 ∧ y1.1 0 0 = kc ∧ (kc = 0 → ∀ v, o v = bv.toInt64) ∧ agr x1 y1 ∧ I2 (mrg x1 y1)
def Op_neighbour (l : Launch) (g : GG) (Inv I2 : St → Prop) : Prop := ∀ z, Inv z → ∀ (a0 a1 : Int32), ∃ (kc : Int32) (o : Int64 → Int64) (bv : Int32) (x1 y1 : St), ClsW l g yX0_neighbour cX0_neighbour 5 [(0, 10, 13, 13)] (fun xr oa => [.ref xr, .int a0, .int a1, .ref oa]) z kc o x1 ∧ ModI l g yX4_neighbour cX4_neighbour 7 [.int a0, .int a1] z bv y1 ∧ y1.1 0 0 = kc ∧ (kc = 0 → ∀ v, o v = bv.toInt64) ∧ agr x1 y1 ∧ I2 (mrg x1 y1)
def Op_lakes (l : Launch) (g : GG) (Inv I2 : St → Prop) : Prop := ∀ z, Inv z → ∃ (bv : Int32) (x1 y1 : St), ClsD l g yX1_lakes cX1_lakes 6 z bv x1 ∧ ModI l g yX4_lakes cX4_lakes 5 [] z bv y1 ∧ agr x1 y1 ∧ I2 (mrg x1 y1)
def Op_houseOf (l : Launch) (g : GG) (Inv I2 : St → Prop) : Prop := ∀ z, Inv z → ∀ (a0 a1 : Int32), ∃ (kc : Int32) (o : Int64 → Int64) (bv : Int32) (x1 y1 : St), ClsW l g yX0_houseOf cX0_houseOf 5 [(0, 10, 13, 13), (0, 10, 17, 15)] (fun xr oa => [.ref xr, .int a0, .int a1, .ref oa]) z kc o x1 ∧ ModI l g yX4_houseOf cX4_houseOf 3 [.int a0, .int a1] z bv y1 ∧ y1.1 0 0 = kc ∧ (kc = 0 → ∀ v, o v = bv.toInt64) ∧ agr x1 y1 ∧ I2 (mrg x1 y1)
def Op_reading (l : Launch) (g : GG) (Inv I2 : St → Prop) : Prop := ∀ z, Inv z → ∀ (a0 a1 a2 : Int32), ∃ (kc : Int32) (o : Int64 → Int64) (bv : Int32) (x1 y1 : St), ClsW l g yX0_reading cX0_reading 6 [(0, 12, 15, 13)] (fun xr oa => [.ref xr, .int a0, .int a1, .int a2, .ref oa]) z kc o x1 ∧ ModI l g yX4_reading cX4_reading 5 [.int a0, .int a1, .int a2] z bv y1 ∧ y1.1 0 0 = kc ∧ (kc = 0 → ∀ v, o v = bv.toInt64) ∧ agr x1 y1 ∧ I2 (mrg x1 y1)
def Op_claimOf (l : Launch) (g : GG) (Inv I2 : St → Prop) : Prop := ∀ z, Inv z → ∀ (a0 : Int32), ∃ (kc : Int32) (o : Int64 → Int64) (bv : Int32) (x1 y1 : St), ClsW l g yX0_claimOf cX0_claimOf 4 [(0, 9, 12, 13)] (fun xr oa => [.ref xr, .int a0, .ref oa]) z kc o x1 ∧ ModI l g yX4_claimOf cX4_claimOf 2 [.int a0] z bv y1 ∧ y1.1 0 0 = kc ∧ (kc = 0 → ∀ v, o v = bv.toInt64) ∧ agr x1 y1 ∧ I2 (mrg x1 y1)
def Op_claimAnew (l : Launch) (g : GG) (Inv I2 : St → Prop) : Prop := ∀ z, Inv z → ∀ (a0 : Int32), ∃ (kc : Int32) (o : Int64 → Int64) (bv : Int32) (x1 y1 : St), ClsW l g yX0_claimAnew cX0_claimAnew 4 [(0, 9, 12, 13)] (fun xr oa => [.ref xr, .int a0, .ref oa]) z kc o x1 ∧ ModI l g yX4_claimAnew cX4_claimAnew 2 [.int a0] z bv y1 ∧ y1.1 0 0 = kc ∧ (kc = 0 → ∀ v, o v = bv.toInt64) ∧ agr x1 y1 ∧ I2 (mrg x1 y1)
def Op_balance (l : Launch) (g : GG) (Inv I2 : St → Prop) : Prop := ∀ z, Inv z → ∀ (a0 a1 : Int32), ∃ (kc : Int32) (o : Int64 → Int64) (bv : Int64) (x1 y1 : St), ClsW l g yX0_balance cX0_balance 5 [(0, 9, 12, 15)] (fun xr oa => [.ref xr, .int a0, .int a1, .ref oa]) z kc o x1 ∧ ModL l g yX4_balance cX4_balance 7 [.int a0, .int a1] z bv y1 ∧ y1.1 0 0 = kc ∧ (kc = 0 → ∀ v, o v = bv) ∧ agr x1 y1 ∧ I2 (mrg x1 y1)
def Op_air (l : Launch) (g : GG) (Inv I2 : St → Prop) : Prop := ∀ z, Inv z → ∀ (a0 : Int32), ∃ (kc : Int32) (o : Int64 → Int64) (bv : Int64) (x1 y1 : St), ClsW l g yX0_air cX0_air 4 [(0, 8, 11, 15)] (fun xr oa => [.ref xr, .int a0, .ref oa]) z kc o x1 ∧ ModL l g yX4_air cX4_air 2 [.int a0] z bv y1 ∧ y1.1 0 0 = kc ∧ (kc = 0 → ∀ v, o v = bv) ∧ agr x1 y1 ∧ I2 (mrg x1 y1)
set_option maxHeartbeats 1000000 in
theorem law_ground {p : Program} {l : Launch} {e : Env} {s : State} {m : MethodId} {args : Array Value} {below : List Frame} {meth : Method} {c : Code} {Q : State → Prop} {H : Heap} {locs : List Loc} {ls : Array Slot} {g : GG} {b L : Nat} {xs : Nat → Int32} {Inv I2 : St → Prop} (hcf : CallFix p m c cL_law 8 s args lw_all "WakegroundLaw") (hE : amb g (fun q => s.heap.size ≤ q) s s.heap) (hX : va_X b L xs s s.heap) (hbl : b < s.heap.size) (hop : Op_ground l g Inv I2) (t : Nat) (ht : 7 * t + 7 ≤ L) (hL : L ≤ 448) (z : St) (hI : Inv z) (ad adm : Nat → Nat → Nat) (oa : Nat) (v : Int64) (hM : mW g.1 (fun q => s.heap.size ≤ q) (cwM g ad (Mo g oa v) z) H) (hN : mW g.1 (fun q => s.heap.size ≤ q) (mwM g adm z) H) (hap : apart (cwM g ad (Mo g oa v) z) (mwM g adm z)) (hS : va_S (fun q => s.heap.size ≤ q) s.heap H locs) (hl : lv_has ls 8 [(0, .ref b), (1, .ref (ad 0 0)), (2, .ref (adm 30 0)), (3, .ref oa), (4, .int (nI (7 * t)))])
    (kk : ∀ (z : St) (ad : Nat → Nat → Nat) (v : Int64) (H : Heap) (locs : List Loc) (ls : Array Slot), I2 z → mW g.1 (fun q => s.heap.size ≤ q) (cwM g ad (Mo g oa v) z) H → mW g.1 (fun q => s.heap.size ≤ q) (mwM g adm z) H → apart (cwM g ad (Mo g oa v) z) (mwM g adm z) → va_S (fun q => s.heap.size ≤ q) s.heap H locs → lv_has ls 8 [(0, .ref b), (1, .ref (ad 0 0)), (2, .ref (adm 30 0)), (3, .ref oa), (4, .int (nI (7 * t)))] → W p l e room_1 s m args below meth c H locs (300 + 800 * (t + 1)) (33000 + 3500 * (t + 1)) Q (F0 m 1334 ls [])) : W p l e room_1 s m args below meth c H locs (300 + 800 * t) (33000 + 3500 * t) Q (F0 m 132 ls []) := by
  have hx := hcf.1
  have hb := hcf.2.1
  have hml := hcf.2.2.1
  have hown := hcf.2.2.2.1
  have hts := hcf.2.2.2.2
  have hA0 : ∀ q : Nat, s.heap.size ≤ q → (fun q : Nat => s.heap.size ≤ q) q := fun _ h => h
  have hbA : ¬ (fun q : Nat => s.heap.size ≤ q) b := Nat.not_le.mpr hbl
  refine lv_aload_n hx hb dL_law_132 rfl (lv_at hl 1 rfl) ?_
  refine lv_aload_n hx hb dL_law_133 rfl (lv_at hl 0 rfl) ?_
  refine lv_iload hx hb dL_law_134 (lv_at hl 4 rfl) ?_
  refine lv_iconst (v := 1) hx hb dL_law_136 (by decide) ?_
  refine lv_iadd hx hb dL_law_137 ?_
  refine m_topI (y := nI ((7 * t) + 1)) (nI_add (7 * t) 1) ?_
  refine va_sld hx hb hX hbl hbA hS (m_in (i := nI ((7 * t) + 1)) (j := ((7 * t) + 1)) rfl (by omega) (by omega)).1 dL_law_138 ?_
  refine m_topI (y := xs ((7 * t) + 1)) (by rw [nI_clamp (by omega)]) ?_
  refine lv_aload_n hx hb dL_law_139 rfl (lv_at hl 0 rfl) ?_
  refine lv_iload hx hb dL_law_140 (lv_at hl 4 rfl) ?_
  refine lv_iconst (v := 2) hx hb dL_law_142 (by decide) ?_
  refine lv_iadd hx hb dL_law_143 ?_
  refine m_topI (y := nI ((7 * t) + 2)) (nI_add (7 * t) 2) ?_
  refine va_sld hx hb hX hbl hbA hS (m_in (i := nI ((7 * t) + 2)) (j := ((7 * t) + 2)) rfl (by omega) (by omega)).1 dL_law_144 ?_
  refine m_topI (y := xs ((7 * t) + 2)) (by rw [nI_clamp (by omega)]) ?_
  refine lv_aload_n hx hb dL_law_145 rfl (lv_at hl 0 rfl) ?_
  refine lv_iload hx hb dL_law_146 (lv_at hl 4 rfl) ?_
  refine lv_iconst (v := 3) hx hb dL_law_148 (by decide) ?_
  refine lv_iadd hx hb dL_law_149 ?_
  refine m_topI (y := nI ((7 * t) + 3)) (nI_add (7 * t) 3) ?_
  refine va_sld hx hb hX hbl hbA hS (m_in (i := nI ((7 * t) + 3)) (j := ((7 * t) + 3)) rfl (by omega) (by omega)).1 dL_law_150 ?_
  refine m_topI (y := xs ((7 * t) + 3)) (by rw [nI_clamp (by omega)]) ?_
  refine lv_aload_n hx hb dL_law_151 rfl (lv_at hl 0 rfl) ?_
  refine lv_iload hx hb dL_law_152 (lv_at hl 4 rfl) ?_
  refine lv_iconst (v := 4) hx hb dL_law_154 (by decide) ?_
  refine lv_iadd hx hb dL_law_155 ?_
  refine m_topI (y := nI ((7 * t) + 4)) (nI_add (7 * t) 4) ?_
  refine va_sld hx hb hX hbl hbA hS (m_in (i := nI ((7 * t) + 4)) (j := ((7 * t) + 4)) rfl (by omega) (by omega)).1 dL_law_156 ?_
  refine m_topI (y := xs ((7 * t) + 4)) (by rw [nI_clamp (by omega)]) ?_
  refine lv_aload_n hx hb dL_law_157 rfl (lv_at hl 0 rfl) ?_
  refine lv_iload hx hb dL_law_158 (lv_at hl 4 rfl) ?_
  refine lv_iconst (v := 5) hx hb dL_law_160 (by decide) ?_
  refine lv_iadd hx hb dL_law_161 ?_
  refine m_topI (y := nI ((7 * t) + 5)) (nI_add (7 * t) 5) ?_
  refine va_sld hx hb hX hbl hbA hS (m_in (i := nI ((7 * t) + 5)) (j := ((7 * t) + 5)) rfl (by omega) (by omega)).1 dL_law_162 ?_
  refine m_topI (y := xs ((7 * t) + 5)) (by rw [nI_clamp (by omega)]) ?_
  refine lv_aload_n hx hb dL_law_163 rfl (lv_at hl 0 rfl) ?_
  refine lv_iload hx hb dL_law_164 (lv_at hl 4 rfl) ?_
  refine lv_bipush (v := 6) hx hb dL_law_166 (by decide) ?_
  refine lv_iadd hx hb dL_law_168 ?_
  refine m_topI (y := nI ((7 * t) + 6)) (nI_add (7 * t) 6) ?_
  refine va_sld hx hb hX hbl hbA hS (m_in (i := nI ((7 * t) + 6)) (j := ((7 * t) + 6)) rfl (by omega) (by omega)).1 dL_law_169 ?_
  refine m_topI (y := xs ((7 * t) + 6)) (by rw [nI_clamp (by omega)]) ?_
  obtain ⟨kc, x1, y1, hcls, hmod, hth, hag, hI2⟩ := hop z hI (xs ((7 * t) + 1)) (xs ((7 * t) + 2)) (xs ((7 * t) + 3)) (xs ((7 * t) + 4)) (xs ((7 * t) + 5)) (xs ((7 * t) + 6))
  obtain ⟨rm9, mc9, ms9, ⟨r1, r2, r3, r4, r5, r6⟩, hmet⟩ := hcls ad oa v
  refine l_cW (As := [.ref (ad 0 0), .int (xs ((7 * t) + 1)), .int (xs ((7 * t) + 2)), .int (xs ((7 * t) + 3)), .int (xs ((7 * t) + 4)), .int (xs ((7 * t) + 5)), .int (xs ((7 * t) + 6))]) (rest := []) hcf hmet (vx_cwSW (hh := [(0, 13, 16, 13), (0, 13, 20, 15)]) (bytes := cX0_ground) (maxL := 8) (ret := some .int) 7 hts (lw_SW q371 q372 q34 q373) rfl r1 r2 (by decide +kernel) ⟨by show _ ≤ 22; omega, by show _ ≤ 10924; omega⟩) hE hA0 hM hN hap hS rfl hl.1 rfl (Nat.le_of_ble_eq_true rfl) dL_law_170 ⟨by show _ ≤ 1200384; omega, by show _ ≤ 5488298; omega⟩ (fun r9 ad2 H locs hr9 hM hN hap hS => ?_)
  obtain ⟨hr9, had2⟩ := hr9
  subst hr9
  rw [← had2] at hl
  refine W.widen (k := 300 + 800 * t + 700) (n := 33000 + 3500 * t + 3300) (by omega) (by omega) ?_
  refine lv_istore (lv' := [(5, .int r9), (0, .ref b), (1, .ref (ad2 0 0)), (2, .ref (adm 30 0)), (3, .ref oa), (4, .int (nI (7 * t)))]) hx hb dL_law_173 hl (by decide) rfl (fun ls hl => ?_)
  refine lv_aload_n hx hb dL_law_175 rfl (lv_at hl 3 rfl) ?_
  refine lv_aload_n hx hb dL_law_176 rfl (lv_at hl 1 rfl) ?_
  refine lv_iload hx hb dL_law_177 (lv_at hl 5 rfl) ?_
  refine lv_iconst (v := 1) hx hb dL_law_179 (by decide) ?_
  refine lv_iadd hx hb dL_law_180 ?_
  refine m_topI (y := nI ((7 * t) + 1)) (nI_add (7 * t) 1) ?_
  refine va_sld hx hb hX hbl hbA hS (m_in (i := nI ((7 * t) + 1)) (j := ((7 * t) + 1)) rfl (by omega) (by omega)).1 dL_law_181 ?_
  refine m_topI (y := xs ((7 * t) + 1)) (by rw [nI_clamp (by omega)]) ?_
  refine lv_aload_n hx hb dL_law_182 rfl (lv_at hl 1 rfl) ?_
  refine lv_iload hx hb dL_law_183 (lv_at hl 5 rfl) ?_
  refine lv_iconst (v := 2) hx hb dL_law_185 (by decide) ?_
  refine lv_iadd hx hb dL_law_186 ?_
  refine m_topI (y := nI ((7 * t) + 2)) (nI_add (7 * t) 2) ?_
  refine va_sld hx hb hX hbl hbA hS (m_in (i := nI ((7 * t) + 2)) (j := ((7 * t) + 2)) rfl (by omega) (by omega)).1 dL_law_187 ?_
  refine m_topI (y := xs ((7 * t) + 2)) (by rw [nI_clamp (by omega)]) ?_
  refine lv_aload_n hx hb dL_law_188 rfl (lv_at hl 1 rfl) ?_
  refine lv_iload hx hb dL_law_189 (lv_at hl 5 rfl) ?_
  refine lv_iconst (v := 3) hx hb dL_law_191 (by decide) ?_
  refine lv_iadd hx hb dL_law_192 ?_
  refine m_topI (y := nI ((7 * t) + 3)) (nI_add (7 * t) 3) ?_
  refine va_sld hx hb hX hbl hbA hS (m_in (i := nI ((7 * t) + 3)) (j := ((7 * t) + 3)) rfl (by omega) (by omega)).1 dL_law_193 ?_
  refine m_topI (y := xs ((7 * t) + 3)) (by rw [nI_clamp (by omega)]) ?_
  refine lv_aload_n hx hb dL_law_194 rfl (lv_at hl 1 rfl) ?_
  refine lv_iload hx hb dL_law_195 (lv_at hl 5 rfl) ?_
  refine lv_iconst (v := 4) hx hb dL_law_197 (by decide) ?_
  refine lv_iadd hx hb dL_law_198 ?_
  refine m_topI (y := nI ((7 * t) + 4)) (nI_add (7 * t) 4) ?_
  refine va_sld hx hb hX hbl hbA hS (m_in (i := nI ((7 * t) + 4)) (j := ((7 * t) + 4)) rfl (by omega) (by omega)).1 dL_law_199 ?_
  refine m_topI (y := xs ((7 * t) + 4)) (by rw [nI_clamp (by omega)]) ?_
  refine lv_aload_n hx hb dL_law_200 rfl (lv_at hl 1 rfl) ?_
  refine lv_iload hx hb dL_law_201 (lv_at hl 5 rfl) ?_
  refine lv_iconst (v := 5) hx hb dL_law_203 (by decide) ?_
  refine lv_iadd hx hb dL_law_204 ?_
  refine m_topI (y := nI ((7 * t) + 5)) (nI_add (7 * t) 5) ?_
  refine va_sld hx hb hX hbl hbA hS (m_in (i := nI ((7 * t) + 5)) (j := ((7 * t) + 5)) rfl (by omega) (by omega)).1 dL_law_205 ?_
  refine m_topI (y := xs ((7 * t) + 5)) (by rw [nI_clamp (by omega)]) ?_
  refine lv_aload_n hx hb dL_law_206 rfl (lv_at hl 1 rfl) ?_
  refine lv_iload hx hb dL_law_207 (lv_at hl 5 rfl) ?_
  refine lv_bipush (v := 6) hx hb dL_law_209 (by decide) ?_
  refine lv_iadd hx hb dL_law_211 ?_
  refine m_topI (y := nI ((7 * t) + 6)) (nI_add (7 * t) 6) ?_
  refine va_sld hx hb hX hbl hbA hS (m_in (i := nI ((7 * t) + 6)) (j := ((7 * t) + 6)) rfl (by omega) (by omega)).1 dL_law_212 ?_
  refine m_topI (y := xs ((7 * t) + 6)) (by rw [nI_clamp (by omega)]) ?_
  obtain ⟨rm8, mc8, ms8, ⟨q1, q2, q3, q4, q5, q6⟩, hmet8⟩ := hmod adm
  refine l_cV (post := fun (_ : Unit) => True) (M' := fun _ => mwM g adm y1) (As := [.int (xs ((7 * t) + 1)), .int (xs ((7 * t) + 2)), .int (xs ((7 * t) + 3)), .int (xs ((7 * t) + 4)), .int (xs ((7 * t) + 5)), .int (xs ((7 * t) + 6))]) (rest := []) hcf hmet8 (cwV 6 hts (lw_V q1037 q1038 q1039 q41 q1040) rfl q1 q2 (by decide +kernel) ⟨by show _ ≤ 22; omega, by show _ ≤ 10924; omega⟩) hE hA0 hN hM hap.sy hS 30 0 (mwM_o g adm z) (ci := 1) rfl rfl hl.1 rfl (Nat.le_of_ble_eq_true rfl) dL_law_213 ⟨by show _ ≤ 1200384; omega, by show _ ≤ 5488298; omega⟩ (fun _ H locs _ hN hM hap hS => ?_)
  have hap := hap.sy
  refine lv_aload_n hx hb dL_law_216 rfl (lv_at hl 3 rfl) ?_
  refine l_cI (post := fun r (_ : Unit) => r = y1.1 0 0) (M' := fun _ => mwM g adm y1) (As := []) (rest := []) hcf (fun A9 => k_X4_thrown l g A9 adm y1) (cwV 0 hts (lw_V q1033 q1034 q1035 q41 q1036) rfl rfl rfl (by decide +kernel) ⟨Nat.le_of_ble_eq_true rfl, Nat.le_of_ble_eq_true rfl⟩) hE hA0 hN hM hap.sy hS 30 0 (mwM_o g adm y1) (ci := 1) rfl rfl hl.1 rfl (Nat.le_of_ble_eq_true rfl) dL_law_217 ⟨by show _ ≤ 1200384; omega, by show _ ≤ 5488298; omega⟩ (fun r7 _ H locs hr7 hN hM hap hS => ?_)
  have hap := hap.sy
  subst hr7
  refine m_topI (y := r9) (hth) ?_
  refine lv_iload hx hb dL_law_220 (lv_at hl 0 rfl) ?_
  refine lv_icmp_eq (tgt := 227) hx hb dL_law_222 (by decide) (fun _ => ?_) (fun c9 => absurd rfl c9)
  refine lv_goto (tgt := 1334) hx hb dL_law_227 (by decide) ?_
  refine W.widen (k := 300 + 800 * (t + 1)) (n := 33000 + 3500 * (t + 1)) (by omega) (by omega) ?_
  exact kk (mrg x1 y1) ad2 (v) H locs ls hI2 (hM.congr (cw_mrg hag)) (hN.congr mw_mrg) ((hap.cl (cw_mrg hag)).cr mw_mrg) hS (lv_sub hl [1, 2, 3, 4, 5] rfl)

set_option maxHeartbeats 1000000 in
theorem law_moss {p : Program} {l : Launch} {e : Env} {s : State} {m : MethodId} {args : Array Value} {below : List Frame} {meth : Method} {c : Code} {Q : State → Prop} {H : Heap} {locs : List Loc} {ls : Array Slot} {g : GG} {b L : Nat} {xs : Nat → Int32} {Inv I2 : St → Prop} (hcf : CallFix p m c cL_law 8 s args lw_all "WakegroundLaw") (hE : amb g (fun q => s.heap.size ≤ q) s s.heap) (hX : va_X b L xs s s.heap) (hbl : b < s.heap.size) (hop : Op_moss l g Inv I2) (t : Nat) (ht : 7 * t + 7 ≤ L) (hL : L ≤ 448) (z : St) (hI : Inv z) (ad adm : Nat → Nat → Nat) (oa : Nat) (v : Int64) (hM : mW g.1 (fun q => s.heap.size ≤ q) (cwM g ad (Mo g oa v) z) H) (hN : mW g.1 (fun q => s.heap.size ≤ q) (mwM g adm z) H) (hap : apart (cwM g ad (Mo g oa v) z) (mwM g adm z)) (hS : va_S (fun q => s.heap.size ≤ q) s.heap H locs) (hl : lv_has ls 8 [(0, .ref b), (1, .ref (ad 0 0)), (2, .ref (adm 30 0)), (3, .ref oa), (4, .int (nI (7 * t)))])
    (kk : ∀ (z : St) (ad : Nat → Nat → Nat) (v : Int64) (H : Heap) (locs : List Loc) (ls : Array Slot), I2 z → mW g.1 (fun q => s.heap.size ≤ q) (cwM g ad (Mo g oa v) z) H → mW g.1 (fun q => s.heap.size ≤ q) (mwM g adm z) H → apart (cwM g ad (Mo g oa v) z) (mwM g adm z) → va_S (fun q => s.heap.size ≤ q) s.heap H locs → lv_has ls 8 [(0, .ref b), (1, .ref (ad 0 0)), (2, .ref (adm 30 0)), (3, .ref oa), (4, .int (nI (7 * t)))] → W p l e room_1 s m args below meth c H locs (300 + 800 * (t + 1)) (33000 + 3500 * (t + 1)) Q (F0 m 1334 ls [])) : W p l e room_1 s m args below meth c H locs (300 + 800 * t) (33000 + 3500 * t) Q (F0 m 230 ls []) := by
  have hx := hcf.1
  have hb := hcf.2.1
  have hml := hcf.2.2.1
  have hown := hcf.2.2.2.1
  have hts := hcf.2.2.2.2
  have hA0 : ∀ q : Nat, s.heap.size ≤ q → (fun q : Nat => s.heap.size ≤ q) q := fun _ h => h
  have hbA : ¬ (fun q : Nat => s.heap.size ≤ q) b := Nat.not_le.mpr hbl
  refine lv_aload_n hx hb dL_law_230 rfl (lv_at hl 1 rfl) ?_
  refine lv_aload_n hx hb dL_law_231 rfl (lv_at hl 0 rfl) ?_
  refine lv_iload hx hb dL_law_232 (lv_at hl 4 rfl) ?_
  refine lv_iconst (v := 1) hx hb dL_law_234 (by decide) ?_
  refine lv_iadd hx hb dL_law_235 ?_
  refine m_topI (y := nI ((7 * t) + 1)) (nI_add (7 * t) 1) ?_
  refine va_sld hx hb hX hbl hbA hS (m_in (i := nI ((7 * t) + 1)) (j := ((7 * t) + 1)) rfl (by omega) (by omega)).1 dL_law_236 ?_
  refine m_topI (y := xs ((7 * t) + 1)) (by rw [nI_clamp (by omega)]) ?_
  refine lv_aload_n hx hb dL_law_237 rfl (lv_at hl 0 rfl) ?_
  refine lv_iload hx hb dL_law_238 (lv_at hl 4 rfl) ?_
  refine lv_iconst (v := 2) hx hb dL_law_240 (by decide) ?_
  refine lv_iadd hx hb dL_law_241 ?_
  refine m_topI (y := nI ((7 * t) + 2)) (nI_add (7 * t) 2) ?_
  refine va_sld hx hb hX hbl hbA hS (m_in (i := nI ((7 * t) + 2)) (j := ((7 * t) + 2)) rfl (by omega) (by omega)).1 dL_law_242 ?_
  refine m_topI (y := xs ((7 * t) + 2)) (by rw [nI_clamp (by omega)]) ?_
  refine lv_aload_n hx hb dL_law_243 rfl (lv_at hl 3 rfl) ?_
  obtain ⟨kc, o9, bv, x1, y1, hcls, hmod, hth, heq, hag, hI2⟩ := hop z hI (xs ((7 * t) + 1)) (xs ((7 * t) + 2))
  obtain ⟨rm9, mc9, ms9, ⟨r1, r2, r3, r4, r5, r6⟩, hmet⟩ := hcls ad oa v
  refine l_cW (As := [.ref (ad 0 0), .int (xs ((7 * t) + 1)), .int (xs ((7 * t) + 2)), .ref oa]) (rest := []) hcf hmet (vx_cwSW (hh := [(0, 10, 13, 13), (0, 10, 17, 15)]) (bytes := cX0_moss) (maxL := 5) (ret := some .int) 4 hts (lw_SW q458 q459 q34 q460) rfl r1 r2 (by decide +kernel) ⟨by show _ ≤ 22; omega, by show _ ≤ 10924; omega⟩) hE hA0 hM hN hap hS rfl hl.1 rfl (Nat.le_of_ble_eq_true rfl) dL_law_244 ⟨by show _ ≤ 1200384; omega, by show _ ≤ 5488298; omega⟩ (fun r9 ad2 H locs hr9 hM hN hap hS => ?_)
  obtain ⟨hr9, had2⟩ := hr9
  subst hr9
  rw [← had2] at hl
  refine W.widen (k := 300 + 800 * t + 700) (n := 33000 + 3500 * t + 3300) (by omega) (by omega) ?_
  refine lv_istore (lv' := [(5, .int r9), (0, .ref b), (1, .ref (ad2 0 0)), (2, .ref (adm 30 0)), (3, .ref oa), (4, .int (nI (7 * t)))]) hx hb dL_law_247 hl (by decide) rfl (fun ls hl => ?_)
  refine lv_aload_n hx hb dL_law_249 rfl (lv_at hl 3 rfl) ?_
  refine lv_aload_n hx hb dL_law_250 rfl (lv_at hl 1 rfl) ?_
  refine lv_iload hx hb dL_law_251 (lv_at hl 5 rfl) ?_
  refine lv_iconst (v := 1) hx hb dL_law_253 (by decide) ?_
  refine lv_iadd hx hb dL_law_254 ?_
  refine m_topI (y := nI ((7 * t) + 1)) (nI_add (7 * t) 1) ?_
  refine va_sld hx hb hX hbl hbA hS (m_in (i := nI ((7 * t) + 1)) (j := ((7 * t) + 1)) rfl (by omega) (by omega)).1 dL_law_255 ?_
  refine m_topI (y := xs ((7 * t) + 1)) (by rw [nI_clamp (by omega)]) ?_
  refine lv_aload_n hx hb dL_law_256 rfl (lv_at hl 1 rfl) ?_
  refine lv_iload hx hb dL_law_257 (lv_at hl 5 rfl) ?_
  refine lv_iconst (v := 2) hx hb dL_law_259 (by decide) ?_
  refine lv_iadd hx hb dL_law_260 ?_
  refine m_topI (y := nI ((7 * t) + 2)) (nI_add (7 * t) 2) ?_
  refine va_sld hx hb hX hbl hbA hS (m_in (i := nI ((7 * t) + 2)) (j := ((7 * t) + 2)) rfl (by omega) (by omega)).1 dL_law_261 ?_
  refine m_topI (y := xs ((7 * t) + 2)) (by rw [nI_clamp (by omega)]) ?_
  obtain ⟨rm8, mc8, ms8, ⟨q1, q2, q3, q4, q5, q6⟩, hmet8⟩ := hmod adm
  refine l_cI (post := fun r (_ : Unit) => r = bv) (M' := fun _ => mwM g adm y1) (As := [.int (xs ((7 * t) + 1)), .int (xs ((7 * t) + 2))]) (rest := []) hcf hmet8 (cwV 2 hts (lw_V q1051 q1052 q1053 q41 q1054) rfl q1 q2 (by decide +kernel) ⟨by show _ ≤ 22; omega, by show _ ≤ 10924; omega⟩) hE hA0 hN hM hap.sy hS 30 0 (mwM_o g adm z) (ci := 1) rfl rfl hl.1 rfl (Nat.le_of_ble_eq_true rfl) dL_law_262 ⟨by show _ ≤ 1200384; omega, by show _ ≤ 5488298; omega⟩ (fun r8 _ H locs hr8 hN hM hap hS => ?_)
  have hap := hap.sy
  subst hr8
  refine lv_istore (lv' := [(6, .int r8), (5, .int r9), (0, .ref b), (1, .ref (ad2 0 0)), (2, .ref (adm 30 0)), (3, .ref oa), (4, .int (nI (7 * t)))]) hx hb dL_law_265 hl (by decide) rfl (fun ls hl => ?_)
  refine lv_aload_n hx hb dL_law_267 rfl (lv_at hl 4 rfl) ?_
  refine l_cI (post := fun r (_ : Unit) => r = y1.1 0 0) (M' := fun _ => mwM g adm y1) (As := []) (rest := []) hcf (fun A9 => k_X4_thrown l g A9 adm y1) (cwV 0 hts (lw_V q1033 q1034 q1035 q41 q1036) rfl rfl rfl (by decide +kernel) ⟨Nat.le_of_ble_eq_true rfl, Nat.le_of_ble_eq_true rfl⟩) hE hA0 hN hM hap.sy hS 30 0 (mwM_o g adm y1) (ci := 1) rfl rfl hl.1 rfl (Nat.le_of_ble_eq_true rfl) dL_law_268 ⟨by show _ ≤ 1200384; omega, by show _ ≤ 5488298; omega⟩ (fun r7 _ H locs hr7 hN hM hap hS => ?_)
  have hap := hap.sy
  subst hr7
  refine m_topI (y := r9) (hth) ?_
  refine lv_iload hx hb dL_law_271 (lv_at hl 1 rfl) ?_
  refine lv_icmp_eq (tgt := 278) hx hb dL_law_273 (by decide) (fun _ => ?_) (fun c9 => absurd rfl c9)
  refine lv_iload hx hb dL_law_278 (lv_at hl 1 rfl) ?_
  refine lv_if_ne (tgt := 295) hx hb dL_law_280 (by decide) (fun c_6 => ?_) (fun c_6 => ?_)
  · refine lv_goto (tgt := 1334) hx hb dL_law_295 (by decide) ?_
    refine W.widen (k := 300 + 800 * (t + 1)) (n := 33000 + 3500 * (t + 1)) (by omega) (by omega) ?_
    exact kk (mrg x1 y1) ad2 (o9 v) H locs ls hI2 (hM.congr (cw_mrg hag)) (hN.congr mw_mrg) ((hap.cl (cw_mrg hag)).cr mw_mrg) hS (lv_sub hl [2, 3, 4, 5, 6] rfl)
  · refine lv_aload_n hx hb dL_law_283 rfl (lv_at hl 5 rfl) ?_
    refine lv_iconst (v := 0) hx hb dL_law_284 (by decide) ?_
    refine m_lald hx hb hE hM 50 0 cw_out 0 (by decide) (by decide) rfl dL_law_285 ?_
    refine lv_iload hx hb dL_law_286 (lv_at hl 0 rfl) ?_
    refine lv_i2l hx hb dL_law_288 rfl ?_
    refine W.lcmp hx hb dL_law_289 ?_
    refine lv_if_eq (tgt := 295) hx hb dL_law_290 (by decide) (fun _ => ?_) (fun c9 => absurd (by rw [heq c_6 v]; exact lg_same _) c9)
    refine lv_goto (tgt := 1334) hx hb dL_law_295 (by decide) ?_
    refine W.widen (k := 300 + 800 * (t + 1)) (n := 33000 + 3500 * (t + 1)) (by omega) (by omega) ?_
    exact kk (mrg x1 y1) ad2 (o9 v) H locs ls hI2 (hM.congr (cw_mrg hag)) (hN.congr mw_mrg) ((hap.cl (cw_mrg hag)).cr mw_mrg) hS (lv_sub hl [2, 3, 4, 5, 6] rfl)

set_option maxHeartbeats 1000000 in
theorem law_pass {p : Program} {l : Launch} {e : Env} {s : State} {m : MethodId} {args : Array Value} {below : List Frame} {meth : Method} {c : Code} {Q : State → Prop} {H : Heap} {locs : List Loc} {ls : Array Slot} {g : GG} {b L : Nat} {xs : Nat → Int32} {Inv I2 : St → Prop} (hcf : CallFix p m c cL_law 8 s args lw_all "WakegroundLaw") (hE : amb g (fun q => s.heap.size ≤ q) s s.heap) (hX : va_X b L xs s s.heap) (hbl : b < s.heap.size) (hop : Op_pass l g Inv I2) (t : Nat) (ht : 7 * t + 7 ≤ L) (hL : L ≤ 448) (z : St) (hI : Inv z) (ad adm : Nat → Nat → Nat) (oa : Nat) (v : Int64) (hM : mW g.1 (fun q => s.heap.size ≤ q) (cwM g ad (Mo g oa v) z) H) (hN : mW g.1 (fun q => s.heap.size ≤ q) (mwM g adm z) H) (hap : apart (cwM g ad (Mo g oa v) z) (mwM g adm z)) (hS : va_S (fun q => s.heap.size ≤ q) s.heap H locs) (hl : lv_has ls 8 [(0, .ref b), (1, .ref (ad 0 0)), (2, .ref (adm 30 0)), (3, .ref oa), (4, .int (nI (7 * t)))])
    (kk : ∀ (z : St) (ad : Nat → Nat → Nat) (v : Int64) (H : Heap) (locs : List Loc) (ls : Array Slot), I2 z → mW g.1 (fun q => s.heap.size ≤ q) (cwM g ad (Mo g oa v) z) H → mW g.1 (fun q => s.heap.size ≤ q) (mwM g adm z) H → apart (cwM g ad (Mo g oa v) z) (mwM g adm z) → va_S (fun q => s.heap.size ≤ q) s.heap H locs → lv_has ls 8 [(0, .ref b), (1, .ref (ad 0 0)), (2, .ref (adm 30 0)), (3, .ref oa), (4, .int (nI (7 * t)))] → W p l e room_1 s m args below meth c H locs (300 + 800 * (t + 1)) (33000 + 3500 * (t + 1)) Q (F0 m 1334 ls [])) : W p l e room_1 s m args below meth c H locs (300 + 800 * t) (33000 + 3500 * t) Q (F0 m 298 ls []) := by
  have hx := hcf.1
  have hb := hcf.2.1
  have hml := hcf.2.2.1
  have hown := hcf.2.2.2.1
  have hts := hcf.2.2.2.2
  have hA0 : ∀ q : Nat, s.heap.size ≤ q → (fun q : Nat => s.heap.size ≤ q) q := fun _ h => h
  have hbA : ¬ (fun q : Nat => s.heap.size ≤ q) b := Nat.not_le.mpr hbl
  refine lv_aload_n hx hb dL_law_298 rfl (lv_at hl 1 rfl) ?_
  refine lv_aload_n hx hb dL_law_299 rfl (lv_at hl 0 rfl) ?_
  refine lv_iload hx hb dL_law_300 (lv_at hl 4 rfl) ?_
  refine lv_iconst (v := 1) hx hb dL_law_302 (by decide) ?_
  refine lv_iadd hx hb dL_law_303 ?_
  refine m_topI (y := nI ((7 * t) + 1)) (nI_add (7 * t) 1) ?_
  refine va_sld hx hb hX hbl hbA hS (m_in (i := nI ((7 * t) + 1)) (j := ((7 * t) + 1)) rfl (by omega) (by omega)).1 dL_law_304 ?_
  refine m_topI (y := xs ((7 * t) + 1)) (by rw [nI_clamp (by omega)]) ?_
  refine lv_aload_n hx hb dL_law_305 rfl (lv_at hl 0 rfl) ?_
  refine lv_iload hx hb dL_law_306 (lv_at hl 4 rfl) ?_
  refine lv_iconst (v := 2) hx hb dL_law_308 (by decide) ?_
  refine lv_iadd hx hb dL_law_309 ?_
  refine m_topI (y := nI ((7 * t) + 2)) (nI_add (7 * t) 2) ?_
  refine va_sld hx hb hX hbl hbA hS (m_in (i := nI ((7 * t) + 2)) (j := ((7 * t) + 2)) rfl (by omega) (by omega)).1 dL_law_310 ?_
  refine m_topI (y := xs ((7 * t) + 2)) (by rw [nI_clamp (by omega)]) ?_
  refine lv_aload_n hx hb dL_law_311 rfl (lv_at hl 0 rfl) ?_
  refine lv_iload hx hb dL_law_312 (lv_at hl 4 rfl) ?_
  refine lv_iconst (v := 3) hx hb dL_law_314 (by decide) ?_
  refine lv_iadd hx hb dL_law_315 ?_
  refine m_topI (y := nI ((7 * t) + 3)) (nI_add (7 * t) 3) ?_
  refine va_sld hx hb hX hbl hbA hS (m_in (i := nI ((7 * t) + 3)) (j := ((7 * t) + 3)) rfl (by omega) (by omega)).1 dL_law_316 ?_
  refine m_topI (y := xs ((7 * t) + 3)) (by rw [nI_clamp (by omega)]) ?_
  refine lv_aload_n hx hb dL_law_317 rfl (lv_at hl 3 rfl) ?_
  obtain ⟨kc, o9, bv, x1, y1, hcls, hmod, hth, heq, hag, hI2⟩ := hop z hI (xs ((7 * t) + 1)) (xs ((7 * t) + 2)) (xs ((7 * t) + 3))
  obtain ⟨rm9, mc9, ms9, ⟨r1, r2, r3, r4, r5, r6⟩, hmet⟩ := hcls ad oa v
  refine l_cW (As := [.ref (ad 0 0), .int (xs ((7 * t) + 1)), .int (xs ((7 * t) + 2)), .int (xs ((7 * t) + 3)), .ref oa]) (rest := []) hcf hmet (vx_cwSW (hh := [(0, 12, 15, 15), (0, 12, 19, 25)]) (bytes := cX0_pass) (maxL := 6) (ret := some .int) 5 hts (lw_SW q465 q466 q34 q467) rfl r1 r2 (by decide +kernel) ⟨by show _ ≤ 22; omega, by show _ ≤ 10924; omega⟩) hE hA0 hM hN hap hS rfl hl.1 rfl (Nat.le_of_ble_eq_true rfl) dL_law_318 ⟨by show _ ≤ 1200384; omega, by show _ ≤ 5488298; omega⟩ (fun r9 ad2 H locs hr9 hM hN hap hS => ?_)
  obtain ⟨hr9, had2⟩ := hr9
  subst hr9
  rw [← had2] at hl
  refine W.widen (k := 300 + 800 * t + 700) (n := 33000 + 3500 * t + 3300) (by omega) (by omega) ?_
  refine lv_istore (lv' := [(5, .int r9), (0, .ref b), (1, .ref (ad2 0 0)), (2, .ref (adm 30 0)), (3, .ref oa), (4, .int (nI (7 * t)))]) hx hb dL_law_321 hl (by decide) rfl (fun ls hl => ?_)
  refine lv_aload_n hx hb dL_law_323 rfl (lv_at hl 3 rfl) ?_
  refine lv_aload_n hx hb dL_law_324 rfl (lv_at hl 1 rfl) ?_
  refine lv_iload hx hb dL_law_325 (lv_at hl 5 rfl) ?_
  refine lv_iconst (v := 1) hx hb dL_law_327 (by decide) ?_
  refine lv_iadd hx hb dL_law_328 ?_
  refine m_topI (y := nI ((7 * t) + 1)) (nI_add (7 * t) 1) ?_
  refine va_sld hx hb hX hbl hbA hS (m_in (i := nI ((7 * t) + 1)) (j := ((7 * t) + 1)) rfl (by omega) (by omega)).1 dL_law_329 ?_
  refine m_topI (y := xs ((7 * t) + 1)) (by rw [nI_clamp (by omega)]) ?_
  refine lv_aload_n hx hb dL_law_330 rfl (lv_at hl 1 rfl) ?_
  refine lv_iload hx hb dL_law_331 (lv_at hl 5 rfl) ?_
  refine lv_iconst (v := 2) hx hb dL_law_333 (by decide) ?_
  refine lv_iadd hx hb dL_law_334 ?_
  refine m_topI (y := nI ((7 * t) + 2)) (nI_add (7 * t) 2) ?_
  refine va_sld hx hb hX hbl hbA hS (m_in (i := nI ((7 * t) + 2)) (j := ((7 * t) + 2)) rfl (by omega) (by omega)).1 dL_law_335 ?_
  refine m_topI (y := xs ((7 * t) + 2)) (by rw [nI_clamp (by omega)]) ?_
  refine lv_aload_n hx hb dL_law_336 rfl (lv_at hl 1 rfl) ?_
  refine lv_iload hx hb dL_law_337 (lv_at hl 5 rfl) ?_
  refine lv_iconst (v := 3) hx hb dL_law_339 (by decide) ?_
  refine lv_iadd hx hb dL_law_340 ?_
  refine m_topI (y := nI ((7 * t) + 3)) (nI_add (7 * t) 3) ?_
  refine va_sld hx hb hX hbl hbA hS (m_in (i := nI ((7 * t) + 3)) (j := ((7 * t) + 3)) rfl (by omega) (by omega)).1 dL_law_341 ?_
  refine m_topI (y := xs ((7 * t) + 3)) (by rw [nI_clamp (by omega)]) ?_
  obtain ⟨rm8, mc8, ms8, ⟨q1, q2, q3, q4, q5, q6⟩, hmet8⟩ := hmod adm
  refine l_cI (post := fun r (_ : Unit) => r = bv) (M' := fun _ => mwM g adm y1) (As := [.int (xs ((7 * t) + 1)), .int (xs ((7 * t) + 2)), .int (xs ((7 * t) + 3))]) (rest := []) hcf hmet8 (cwV 3 hts (lw_V q1055 q1056 q1057 q41 q1058) rfl q1 q2 (by decide +kernel) ⟨by show _ ≤ 22; omega, by show _ ≤ 10924; omega⟩) hE hA0 hN hM hap.sy hS 30 0 (mwM_o g adm z) (ci := 1) rfl rfl hl.1 rfl (Nat.le_of_ble_eq_true rfl) dL_law_342 ⟨by show _ ≤ 1200384; omega, by show _ ≤ 5488298; omega⟩ (fun r8 _ H locs hr8 hN hM hap hS => ?_)
  have hap := hap.sy
  subst hr8
  refine lv_istore (lv' := [(6, .int r8), (5, .int r9), (0, .ref b), (1, .ref (ad2 0 0)), (2, .ref (adm 30 0)), (3, .ref oa), (4, .int (nI (7 * t)))]) hx hb dL_law_345 hl (by decide) rfl (fun ls hl => ?_)
  refine lv_aload_n hx hb dL_law_347 rfl (lv_at hl 4 rfl) ?_
  refine l_cI (post := fun r (_ : Unit) => r = y1.1 0 0) (M' := fun _ => mwM g adm y1) (As := []) (rest := []) hcf (fun A9 => k_X4_thrown l g A9 adm y1) (cwV 0 hts (lw_V q1033 q1034 q1035 q41 q1036) rfl rfl rfl (by decide +kernel) ⟨Nat.le_of_ble_eq_true rfl, Nat.le_of_ble_eq_true rfl⟩) hE hA0 hN hM hap.sy hS 30 0 (mwM_o g adm y1) (ci := 1) rfl rfl hl.1 rfl (Nat.le_of_ble_eq_true rfl) dL_law_348 ⟨by show _ ≤ 1200384; omega, by show _ ≤ 5488298; omega⟩ (fun r7 _ H locs hr7 hN hM hap hS => ?_)
  have hap := hap.sy
  subst hr7
  refine m_topI (y := r9) (hth) ?_
  refine lv_iload hx hb dL_law_351 (lv_at hl 1 rfl) ?_
  refine lv_icmp_eq (tgt := 358) hx hb dL_law_353 (by decide) (fun _ => ?_) (fun c9 => absurd rfl c9)
  refine lv_iload hx hb dL_law_358 (lv_at hl 1 rfl) ?_
  refine lv_if_ne (tgt := 375) hx hb dL_law_360 (by decide) (fun c_6 => ?_) (fun c_6 => ?_)
  · refine lv_goto (tgt := 1334) hx hb dL_law_375 (by decide) ?_
    refine W.widen (k := 300 + 800 * (t + 1)) (n := 33000 + 3500 * (t + 1)) (by omega) (by omega) ?_
    exact kk (mrg x1 y1) ad2 (o9 v) H locs ls hI2 (hM.congr (cw_mrg hag)) (hN.congr mw_mrg) ((hap.cl (cw_mrg hag)).cr mw_mrg) hS (lv_sub hl [2, 3, 4, 5, 6] rfl)
  · refine lv_aload_n hx hb dL_law_363 rfl (lv_at hl 5 rfl) ?_
    refine lv_iconst (v := 0) hx hb dL_law_364 (by decide) ?_
    refine m_lald hx hb hE hM 50 0 cw_out 0 (by decide) (by decide) rfl dL_law_365 ?_
    refine lv_iload hx hb dL_law_366 (lv_at hl 0 rfl) ?_
    refine lv_i2l hx hb dL_law_368 rfl ?_
    refine W.lcmp hx hb dL_law_369 ?_
    refine lv_if_eq (tgt := 375) hx hb dL_law_370 (by decide) (fun _ => ?_) (fun c9 => absurd (by rw [heq c_6 v]; exact lg_same _) c9)
    refine lv_goto (tgt := 1334) hx hb dL_law_375 (by decide) ?_
    refine W.widen (k := 300 + 800 * (t + 1)) (n := 33000 + 3500 * (t + 1)) (by omega) (by omega) ?_
    exact kk (mrg x1 y1) ad2 (o9 v) H locs ls hI2 (hM.congr (cw_mrg hag)) (hN.congr mw_mrg) ((hap.cl (cw_mrg hag)).cr mw_mrg) hS (lv_sub hl [2, 3, 4, 5, 6] rfl)

set_option maxHeartbeats 1000000 in
theorem law_fire {p : Program} {l : Launch} {e : Env} {s : State} {m : MethodId} {args : Array Value} {below : List Frame} {meth : Method} {c : Code} {Q : State → Prop} {H : Heap} {locs : List Loc} {ls : Array Slot} {g : GG} {b L : Nat} {xs : Nat → Int32} {Inv I2 : St → Prop} (hcf : CallFix p m c cL_law 8 s args lw_all "WakegroundLaw") (hE : amb g (fun q => s.heap.size ≤ q) s s.heap) (hX : va_X b L xs s s.heap) (hbl : b < s.heap.size) (hop : Op_fire l g Inv I2) (t : Nat) (ht : 7 * t + 7 ≤ L) (hL : L ≤ 448) (z : St) (hI : Inv z) (ad adm : Nat → Nat → Nat) (oa : Nat) (v : Int64) (hM : mW g.1 (fun q => s.heap.size ≤ q) (cwM g ad (Mo g oa v) z) H) (hN : mW g.1 (fun q => s.heap.size ≤ q) (mwM g adm z) H) (hap : apart (cwM g ad (Mo g oa v) z) (mwM g adm z)) (hS : va_S (fun q => s.heap.size ≤ q) s.heap H locs) (hl : lv_has ls 8 [(0, .ref b), (1, .ref (ad 0 0)), (2, .ref (adm 30 0)), (3, .ref oa), (4, .int (nI (7 * t)))])
    (kk : ∀ (z : St) (ad : Nat → Nat → Nat) (v : Int64) (H : Heap) (locs : List Loc) (ls : Array Slot), I2 z → mW g.1 (fun q => s.heap.size ≤ q) (cwM g ad (Mo g oa v) z) H → mW g.1 (fun q => s.heap.size ≤ q) (mwM g adm z) H → apart (cwM g ad (Mo g oa v) z) (mwM g adm z) → va_S (fun q => s.heap.size ≤ q) s.heap H locs → lv_has ls 8 [(0, .ref b), (1, .ref (ad 0 0)), (2, .ref (adm 30 0)), (3, .ref oa), (4, .int (nI (7 * t)))] → W p l e room_1 s m args below meth c H locs (300 + 800 * (t + 1)) (33000 + 3500 * (t + 1)) Q (F0 m 1334 ls [])) : W p l e room_1 s m args below meth c H locs (300 + 800 * t) (33000 + 3500 * t) Q (F0 m 378 ls []) := by
  have hx := hcf.1
  have hb := hcf.2.1
  have hml := hcf.2.2.1
  have hown := hcf.2.2.2.1
  have hts := hcf.2.2.2.2
  have hA0 : ∀ q : Nat, s.heap.size ≤ q → (fun q : Nat => s.heap.size ≤ q) q := fun _ h => h
  have hbA : ¬ (fun q : Nat => s.heap.size ≤ q) b := Nat.not_le.mpr hbl
  refine lv_aload_n hx hb dL_law_378 rfl (lv_at hl 1 rfl) ?_
  refine lv_aload_n hx hb dL_law_379 rfl (lv_at hl 0 rfl) ?_
  refine lv_iload hx hb dL_law_380 (lv_at hl 4 rfl) ?_
  refine lv_iconst (v := 1) hx hb dL_law_382 (by decide) ?_
  refine lv_iadd hx hb dL_law_383 ?_
  refine m_topI (y := nI ((7 * t) + 1)) (nI_add (7 * t) 1) ?_
  refine va_sld hx hb hX hbl hbA hS (m_in (i := nI ((7 * t) + 1)) (j := ((7 * t) + 1)) rfl (by omega) (by omega)).1 dL_law_384 ?_
  refine m_topI (y := xs ((7 * t) + 1)) (by rw [nI_clamp (by omega)]) ?_
  refine lv_aload_n hx hb dL_law_385 rfl (lv_at hl 3 rfl) ?_
  obtain ⟨kc, o9, bv, x1, y1, hcls, hmod, hth, heq, hag, hI2⟩ := hop z hI (xs ((7 * t) + 1))
  obtain ⟨rm9, mc9, ms9, ⟨r1, r2, r3, r4, r5, r6⟩, hmet⟩ := hcls ad oa v
  refine l_cW (As := [.ref (ad 0 0), .int (xs ((7 * t) + 1)), .ref oa]) (rest := []) hcf hmet (vx_cwSW (hh := [(0, 9, 12, 13), (0, 9, 15, 25)]) (bytes := cX0_fire) (maxL := 4) (ret := some .int) 3 hts (lw_SW q636 q637 q34 q638) rfl r1 r2 (by decide +kernel) ⟨by show _ ≤ 22; omega, by show _ ≤ 10924; omega⟩) hE hA0 hM hN hap hS rfl hl.1 rfl (Nat.le_of_ble_eq_true rfl) dL_law_386 ⟨by show _ ≤ 1200384; omega, by show _ ≤ 5488298; omega⟩ (fun r9 ad2 H locs hr9 hM hN hap hS => ?_)
  obtain ⟨hr9, had2⟩ := hr9
  subst hr9
  rw [← had2] at hl
  refine W.widen (k := 300 + 800 * t + 700) (n := 33000 + 3500 * t + 3300) (by omega) (by omega) ?_
  refine lv_istore (lv' := [(5, .int r9), (0, .ref b), (1, .ref (ad2 0 0)), (2, .ref (adm 30 0)), (3, .ref oa), (4, .int (nI (7 * t)))]) hx hb dL_law_389 hl (by decide) rfl (fun ls hl => ?_)
  refine lv_aload_n hx hb dL_law_391 rfl (lv_at hl 3 rfl) ?_
  refine lv_aload_n hx hb dL_law_392 rfl (lv_at hl 1 rfl) ?_
  refine lv_iload hx hb dL_law_393 (lv_at hl 5 rfl) ?_
  refine lv_iconst (v := 1) hx hb dL_law_395 (by decide) ?_
  refine lv_iadd hx hb dL_law_396 ?_
  refine m_topI (y := nI ((7 * t) + 1)) (nI_add (7 * t) 1) ?_
  refine va_sld hx hb hX hbl hbA hS (m_in (i := nI ((7 * t) + 1)) (j := ((7 * t) + 1)) rfl (by omega) (by omega)).1 dL_law_397 ?_
  refine m_topI (y := xs ((7 * t) + 1)) (by rw [nI_clamp (by omega)]) ?_
  obtain ⟨rm8, mc8, ms8, ⟨q1, q2, q3, q4, q5, q6⟩, hmet8⟩ := hmod adm
  refine l_cI (post := fun r (_ : Unit) => r = bv) (M' := fun _ => mwM g adm y1) (As := [.int (xs ((7 * t) + 1))]) (rest := []) hcf hmet8 (cwV 1 hts (lw_V q1109 q1110 q1111 q41 q1112) rfl q1 q2 (by decide +kernel) ⟨by show _ ≤ 22; omega, by show _ ≤ 10924; omega⟩) hE hA0 hN hM hap.sy hS 30 0 (mwM_o g adm z) (ci := 1) rfl rfl hl.1 rfl (Nat.le_of_ble_eq_true rfl) dL_law_398 ⟨by show _ ≤ 1200384; omega, by show _ ≤ 5488298; omega⟩ (fun r8 _ H locs hr8 hN hM hap hS => ?_)
  have hap := hap.sy
  subst hr8
  refine lv_istore (lv' := [(6, .int r8), (5, .int r9), (0, .ref b), (1, .ref (ad2 0 0)), (2, .ref (adm 30 0)), (3, .ref oa), (4, .int (nI (7 * t)))]) hx hb dL_law_401 hl (by decide) rfl (fun ls hl => ?_)
  refine lv_aload_n hx hb dL_law_403 rfl (lv_at hl 4 rfl) ?_
  refine l_cI (post := fun r (_ : Unit) => r = y1.1 0 0) (M' := fun _ => mwM g adm y1) (As := []) (rest := []) hcf (fun A9 => k_X4_thrown l g A9 adm y1) (cwV 0 hts (lw_V q1033 q1034 q1035 q41 q1036) rfl rfl rfl (by decide +kernel) ⟨Nat.le_of_ble_eq_true rfl, Nat.le_of_ble_eq_true rfl⟩) hE hA0 hN hM hap.sy hS 30 0 (mwM_o g adm y1) (ci := 1) rfl rfl hl.1 rfl (Nat.le_of_ble_eq_true rfl) dL_law_404 ⟨by show _ ≤ 1200384; omega, by show _ ≤ 5488298; omega⟩ (fun r7 _ H locs hr7 hN hM hap hS => ?_)
  have hap := hap.sy
  subst hr7
  refine m_topI (y := r9) (hth) ?_
  refine lv_iload hx hb dL_law_407 (lv_at hl 1 rfl) ?_
  refine lv_icmp_eq (tgt := 414) hx hb dL_law_409 (by decide) (fun _ => ?_) (fun c9 => absurd rfl c9)
  refine lv_iload hx hb dL_law_414 (lv_at hl 1 rfl) ?_
  refine lv_if_ne (tgt := 431) hx hb dL_law_416 (by decide) (fun c_6 => ?_) (fun c_6 => ?_)
  · refine lv_goto (tgt := 1334) hx hb dL_law_431 (by decide) ?_
    refine W.widen (k := 300 + 800 * (t + 1)) (n := 33000 + 3500 * (t + 1)) (by omega) (by omega) ?_
    exact kk (mrg x1 y1) ad2 (o9 v) H locs ls hI2 (hM.congr (cw_mrg hag)) (hN.congr mw_mrg) ((hap.cl (cw_mrg hag)).cr mw_mrg) hS (lv_sub hl [2, 3, 4, 5, 6] rfl)
  · refine lv_aload_n hx hb dL_law_419 rfl (lv_at hl 5 rfl) ?_
    refine lv_iconst (v := 0) hx hb dL_law_420 (by decide) ?_
    refine m_lald hx hb hE hM 50 0 cw_out 0 (by decide) (by decide) rfl dL_law_421 ?_
    refine lv_iload hx hb dL_law_422 (lv_at hl 0 rfl) ?_
    refine lv_i2l hx hb dL_law_424 rfl ?_
    refine W.lcmp hx hb dL_law_425 ?_
    refine lv_if_eq (tgt := 431) hx hb dL_law_426 (by decide) (fun _ => ?_) (fun c9 => absurd (by rw [heq c_6 v]; exact lg_same _) c9)
    refine lv_goto (tgt := 1334) hx hb dL_law_431 (by decide) ?_
    refine W.widen (k := 300 + 800 * (t + 1)) (n := 33000 + 3500 * (t + 1)) (by omega) (by omega) ?_
    exact kk (mrg x1 y1) ad2 (o9 v) H locs ls hI2 (hM.congr (cw_mrg hag)) (hN.congr mw_mrg) ((hap.cl (cw_mrg hag)).cr mw_mrg) hS (lv_sub hl [2, 3, 4, 5, 6] rfl)

set_option maxHeartbeats 1000000 in
theorem law_breach {p : Program} {l : Launch} {e : Env} {s : State} {m : MethodId} {args : Array Value} {below : List Frame} {meth : Method} {c : Code} {Q : State → Prop} {H : Heap} {locs : List Loc} {ls : Array Slot} {g : GG} {b L : Nat} {xs : Nat → Int32} {Inv I2 : St → Prop} (hcf : CallFix p m c cL_law 8 s args lw_all "WakegroundLaw") (hE : amb g (fun q => s.heap.size ≤ q) s s.heap) (hX : va_X b L xs s s.heap) (hbl : b < s.heap.size) (hop : Op_breach l g Inv I2) (t : Nat) (ht : 7 * t + 7 ≤ L) (hL : L ≤ 448) (z : St) (hI : Inv z) (ad adm : Nat → Nat → Nat) (oa : Nat) (v : Int64) (hM : mW g.1 (fun q => s.heap.size ≤ q) (cwM g ad (Mo g oa v) z) H) (hN : mW g.1 (fun q => s.heap.size ≤ q) (mwM g adm z) H) (hap : apart (cwM g ad (Mo g oa v) z) (mwM g adm z)) (hS : va_S (fun q => s.heap.size ≤ q) s.heap H locs) (hl : lv_has ls 8 [(0, .ref b), (1, .ref (ad 0 0)), (2, .ref (adm 30 0)), (3, .ref oa), (4, .int (nI (7 * t)))])
    (kk : ∀ (z : St) (ad : Nat → Nat → Nat) (v : Int64) (H : Heap) (locs : List Loc) (ls : Array Slot), I2 z → mW g.1 (fun q => s.heap.size ≤ q) (cwM g ad (Mo g oa v) z) H → mW g.1 (fun q => s.heap.size ≤ q) (mwM g adm z) H → apart (cwM g ad (Mo g oa v) z) (mwM g adm z) → va_S (fun q => s.heap.size ≤ q) s.heap H locs → lv_has ls 8 [(0, .ref b), (1, .ref (ad 0 0)), (2, .ref (adm 30 0)), (3, .ref oa), (4, .int (nI (7 * t)))] → W p l e room_1 s m args below meth c H locs (300 + 800 * (t + 1)) (33000 + 3500 * (t + 1)) Q (F0 m 1334 ls [])) : W p l e room_1 s m args below meth c H locs (300 + 800 * t) (33000 + 3500 * t) Q (F0 m 434 ls []) := by
  have hx := hcf.1
  have hb := hcf.2.1
  have hml := hcf.2.2.1
  have hown := hcf.2.2.2.1
  have hts := hcf.2.2.2.2
  have hA0 : ∀ q : Nat, s.heap.size ≤ q → (fun q : Nat => s.heap.size ≤ q) q := fun _ h => h
  have hbA : ¬ (fun q : Nat => s.heap.size ≤ q) b := Nat.not_le.mpr hbl
  refine lv_aload_n hx hb dL_law_434 rfl (lv_at hl 1 rfl) ?_
  refine lv_aload_n hx hb dL_law_435 rfl (lv_at hl 0 rfl) ?_
  refine lv_iload hx hb dL_law_436 (lv_at hl 4 rfl) ?_
  refine lv_iconst (v := 1) hx hb dL_law_438 (by decide) ?_
  refine lv_iadd hx hb dL_law_439 ?_
  refine m_topI (y := nI ((7 * t) + 1)) (nI_add (7 * t) 1) ?_
  refine va_sld hx hb hX hbl hbA hS (m_in (i := nI ((7 * t) + 1)) (j := ((7 * t) + 1)) rfl (by omega) (by omega)).1 dL_law_440 ?_
  refine m_topI (y := xs ((7 * t) + 1)) (by rw [nI_clamp (by omega)]) ?_
  refine lv_aload_n hx hb dL_law_441 rfl (lv_at hl 3 rfl) ?_
  obtain ⟨kc, o9, bv, x1, y1, hcls, hmod, hth, heq, hag, hI2⟩ := hop z hI (xs ((7 * t) + 1))
  obtain ⟨rm9, mc9, ms9, ⟨r1, r2, r3, r4, r5, r6⟩, hmet⟩ := hcls ad oa v
  refine l_cW (As := [.ref (ad 0 0), .int (xs ((7 * t) + 1)), .ref oa]) (rest := []) hcf hmet (vx_cwSW (hh := [(0, 9, 12, 13), (0, 9, 15, 25)]) (bytes := cX0_breach) (maxL := 4) (ret := some .int) 3 hts (lw_SW q643 q644 q34 q645) rfl r1 r2 (by decide +kernel) ⟨by show _ ≤ 22; omega, by show _ ≤ 10924; omega⟩) hE hA0 hM hN hap hS rfl hl.1 rfl (Nat.le_of_ble_eq_true rfl) dL_law_442 ⟨by show _ ≤ 1200384; omega, by show _ ≤ 5488298; omega⟩ (fun r9 ad2 H locs hr9 hM hN hap hS => ?_)
  obtain ⟨hr9, had2⟩ := hr9
  subst hr9
  rw [← had2] at hl
  refine W.widen (k := 300 + 800 * t + 700) (n := 33000 + 3500 * t + 3300) (by omega) (by omega) ?_
  refine lv_istore (lv' := [(5, .int r9), (0, .ref b), (1, .ref (ad2 0 0)), (2, .ref (adm 30 0)), (3, .ref oa), (4, .int (nI (7 * t)))]) hx hb dL_law_445 hl (by decide) rfl (fun ls hl => ?_)
  refine lv_aload_n hx hb dL_law_447 rfl (lv_at hl 3 rfl) ?_
  refine lv_aload_n hx hb dL_law_448 rfl (lv_at hl 1 rfl) ?_
  refine lv_iload hx hb dL_law_449 (lv_at hl 5 rfl) ?_
  refine lv_iconst (v := 1) hx hb dL_law_451 (by decide) ?_
  refine lv_iadd hx hb dL_law_452 ?_
  refine m_topI (y := nI ((7 * t) + 1)) (nI_add (7 * t) 1) ?_
  refine va_sld hx hb hX hbl hbA hS (m_in (i := nI ((7 * t) + 1)) (j := ((7 * t) + 1)) rfl (by omega) (by omega)).1 dL_law_453 ?_
  refine m_topI (y := xs ((7 * t) + 1)) (by rw [nI_clamp (by omega)]) ?_
  obtain ⟨rm8, mc8, ms8, ⟨q1, q2, q3, q4, q5, q6⟩, hmet8⟩ := hmod adm
  refine l_cI (post := fun r (_ : Unit) => r = bv) (M' := fun _ => mwM g adm y1) (As := [.int (xs ((7 * t) + 1))]) (rest := []) hcf hmet8 (cwV 1 hts (lw_V q1113 q1114 q1115 q41 q1116) rfl q1 q2 (by decide +kernel) ⟨by show _ ≤ 22; omega, by show _ ≤ 10924; omega⟩) hE hA0 hN hM hap.sy hS 30 0 (mwM_o g adm z) (ci := 1) rfl rfl hl.1 rfl (Nat.le_of_ble_eq_true rfl) dL_law_454 ⟨by show _ ≤ 1200384; omega, by show _ ≤ 5488298; omega⟩ (fun r8 _ H locs hr8 hN hM hap hS => ?_)
  have hap := hap.sy
  subst hr8
  refine lv_istore (lv' := [(6, .int r8), (5, .int r9), (0, .ref b), (1, .ref (ad2 0 0)), (2, .ref (adm 30 0)), (3, .ref oa), (4, .int (nI (7 * t)))]) hx hb dL_law_457 hl (by decide) rfl (fun ls hl => ?_)
  refine lv_aload_n hx hb dL_law_459 rfl (lv_at hl 4 rfl) ?_
  refine l_cI (post := fun r (_ : Unit) => r = y1.1 0 0) (M' := fun _ => mwM g adm y1) (As := []) (rest := []) hcf (fun A9 => k_X4_thrown l g A9 adm y1) (cwV 0 hts (lw_V q1033 q1034 q1035 q41 q1036) rfl rfl rfl (by decide +kernel) ⟨Nat.le_of_ble_eq_true rfl, Nat.le_of_ble_eq_true rfl⟩) hE hA0 hN hM hap.sy hS 30 0 (mwM_o g adm y1) (ci := 1) rfl rfl hl.1 rfl (Nat.le_of_ble_eq_true rfl) dL_law_460 ⟨by show _ ≤ 1200384; omega, by show _ ≤ 5488298; omega⟩ (fun r7 _ H locs hr7 hN hM hap hS => ?_)
  have hap := hap.sy
  subst hr7
  refine m_topI (y := r9) (hth) ?_
  refine lv_iload hx hb dL_law_463 (lv_at hl 1 rfl) ?_
  refine lv_icmp_eq (tgt := 470) hx hb dL_law_465 (by decide) (fun _ => ?_) (fun c9 => absurd rfl c9)
  refine lv_iload hx hb dL_law_470 (lv_at hl 1 rfl) ?_
  refine lv_if_ne (tgt := 487) hx hb dL_law_472 (by decide) (fun c_6 => ?_) (fun c_6 => ?_)
  · refine lv_goto (tgt := 1334) hx hb dL_law_487 (by decide) ?_
    refine W.widen (k := 300 + 800 * (t + 1)) (n := 33000 + 3500 * (t + 1)) (by omega) (by omega) ?_
    exact kk (mrg x1 y1) ad2 (o9 v) H locs ls hI2 (hM.congr (cw_mrg hag)) (hN.congr mw_mrg) ((hap.cl (cw_mrg hag)).cr mw_mrg) hS (lv_sub hl [2, 3, 4, 5, 6] rfl)
  · refine lv_aload_n hx hb dL_law_475 rfl (lv_at hl 5 rfl) ?_
    refine lv_iconst (v := 0) hx hb dL_law_476 (by decide) ?_
    refine m_lald hx hb hE hM 50 0 cw_out 0 (by decide) (by decide) rfl dL_law_477 ?_
    refine lv_iload hx hb dL_law_478 (lv_at hl 0 rfl) ?_
    refine lv_i2l hx hb dL_law_480 rfl ?_
    refine W.lcmp hx hb dL_law_481 ?_
    refine lv_if_eq (tgt := 487) hx hb dL_law_482 (by decide) (fun _ => ?_) (fun c9 => absurd (by rw [heq c_6 v]; exact lg_same _) c9)
    refine lv_goto (tgt := 1334) hx hb dL_law_487 (by decide) ?_
    refine W.widen (k := 300 + 800 * (t + 1)) (n := 33000 + 3500 * (t + 1)) (by omega) (by omega) ?_
    exact kk (mrg x1 y1) ad2 (o9 v) H locs ls hI2 (hM.congr (cw_mrg hag)) (hN.congr mw_mrg) ((hap.cl (cw_mrg hag)).cr mw_mrg) hS (lv_sub hl [2, 3, 4, 5, 6] rfl)

set_option maxHeartbeats 1000000 in
theorem law_house {p : Program} {l : Launch} {e : Env} {s : State} {m : MethodId} {args : Array Value} {below : List Frame} {meth : Method} {c : Code} {Q : State → Prop} {H : Heap} {locs : List Loc} {ls : Array Slot} {g : GG} {b L : Nat} {xs : Nat → Int32} {Inv I2 : St → Prop} (hcf : CallFix p m c cL_law 8 s args lw_all "WakegroundLaw") (hE : amb g (fun q => s.heap.size ≤ q) s s.heap) (hX : va_X b L xs s s.heap) (hbl : b < s.heap.size) (hop : Op_house l g Inv I2) (t : Nat) (ht : 7 * t + 7 ≤ L) (hL : L ≤ 448) (z : St) (hI : Inv z) (ad adm : Nat → Nat → Nat) (oa : Nat) (v : Int64) (hM : mW g.1 (fun q => s.heap.size ≤ q) (cwM g ad (Mo g oa v) z) H) (hN : mW g.1 (fun q => s.heap.size ≤ q) (mwM g adm z) H) (hap : apart (cwM g ad (Mo g oa v) z) (mwM g adm z)) (hS : va_S (fun q => s.heap.size ≤ q) s.heap H locs) (hl : lv_has ls 8 [(0, .ref b), (1, .ref (ad 0 0)), (2, .ref (adm 30 0)), (3, .ref oa), (4, .int (nI (7 * t)))])
    (kk : ∀ (z : St) (ad : Nat → Nat → Nat) (v : Int64) (H : Heap) (locs : List Loc) (ls : Array Slot), I2 z → mW g.1 (fun q => s.heap.size ≤ q) (cwM g ad (Mo g oa v) z) H → mW g.1 (fun q => s.heap.size ≤ q) (mwM g adm z) H → apart (cwM g ad (Mo g oa v) z) (mwM g adm z) → va_S (fun q => s.heap.size ≤ q) s.heap H locs → lv_has ls 8 [(0, .ref b), (1, .ref (ad 0 0)), (2, .ref (adm 30 0)), (3, .ref oa), (4, .int (nI (7 * t)))] → W p l e room_1 s m args below meth c H locs (300 + 800 * (t + 1)) (33000 + 3500 * (t + 1)) Q (F0 m 1334 ls [])) : W p l e room_1 s m args below meth c H locs (300 + 800 * t) (33000 + 3500 * t) Q (F0 m 490 ls []) := by
  have hx := hcf.1
  have hb := hcf.2.1
  have hml := hcf.2.2.1
  have hown := hcf.2.2.2.1
  have hts := hcf.2.2.2.2
  have hA0 : ∀ q : Nat, s.heap.size ≤ q → (fun q : Nat => s.heap.size ≤ q) q := fun _ h => h
  have hbA : ¬ (fun q : Nat => s.heap.size ≤ q) b := Nat.not_le.mpr hbl
  refine lv_aload_n hx hb dL_law_490 rfl (lv_at hl 1 rfl) ?_
  refine lv_aload_n hx hb dL_law_491 rfl (lv_at hl 0 rfl) ?_
  refine lv_iload hx hb dL_law_492 (lv_at hl 4 rfl) ?_
  refine lv_iconst (v := 1) hx hb dL_law_494 (by decide) ?_
  refine lv_iadd hx hb dL_law_495 ?_
  refine m_topI (y := nI ((7 * t) + 1)) (nI_add (7 * t) 1) ?_
  refine va_sld hx hb hX hbl hbA hS (m_in (i := nI ((7 * t) + 1)) (j := ((7 * t) + 1)) rfl (by omega) (by omega)).1 dL_law_496 ?_
  refine m_topI (y := xs ((7 * t) + 1)) (by rw [nI_clamp (by omega)]) ?_
  refine lv_aload_n hx hb dL_law_497 rfl (lv_at hl 0 rfl) ?_
  refine lv_iload hx hb dL_law_498 (lv_at hl 4 rfl) ?_
  refine lv_iconst (v := 2) hx hb dL_law_500 (by decide) ?_
  refine lv_iadd hx hb dL_law_501 ?_
  refine m_topI (y := nI ((7 * t) + 2)) (nI_add (7 * t) 2) ?_
  refine va_sld hx hb hX hbl hbA hS (m_in (i := nI ((7 * t) + 2)) (j := ((7 * t) + 2)) rfl (by omega) (by omega)).1 dL_law_502 ?_
  refine m_topI (y := xs ((7 * t) + 2)) (by rw [nI_clamp (by omega)]) ?_
  refine lv_aload_n hx hb dL_law_503 rfl (lv_at hl 0 rfl) ?_
  refine lv_iload hx hb dL_law_504 (lv_at hl 4 rfl) ?_
  refine lv_iconst (v := 3) hx hb dL_law_506 (by decide) ?_
  refine lv_iadd hx hb dL_law_507 ?_
  refine m_topI (y := nI ((7 * t) + 3)) (nI_add (7 * t) 3) ?_
  refine va_sld hx hb hX hbl hbA hS (m_in (i := nI ((7 * t) + 3)) (j := ((7 * t) + 3)) rfl (by omega) (by omega)).1 dL_law_508 ?_
  refine m_topI (y := xs ((7 * t) + 3)) (by rw [nI_clamp (by omega)]) ?_
  have J_4 : ∀ (v_2 : Int32), ((if (xs ((7 * t) + 3)) = 0 then 0 else 1) = v_2) → W p l e room_1 s m args below meth c H locs (300 + 800 * t) (33000 + 3500 * t) Q (F0 m 517 ls [.int v_2, .int (xs ((7 * t) + 2)), .int (xs ((7 * t) + 1)), .ref (ad 0 0)]) := by
    intro v_2 ev_3
    have hz9 : v_2 = 0 ∨ v_2 = 1 := by rw [← ev_3]; split; (exact Or.inl rfl); (exact Or.inr rfl)
    refine lv_aload_n hx hb dL_law_517 rfl (lv_at hl 3 rfl) ?_
    obtain ⟨kc, o9, bv, x1, y1, hcls, hmod, hth, heq, hag, hI2⟩ := hop z hI (xs ((7 * t) + 1)) (xs ((7 * t) + 2)) v_2 hz9
    obtain ⟨rm9, mc9, ms9, ⟨r1, r2, r3, r4, r5, r6⟩, hmet⟩ := hcls ad oa v
    refine l_cW (As := [.ref (ad 0 0), .int (xs ((7 * t) + 1)), .int (xs ((7 * t) + 2)), .int v_2, .ref oa]) (rest := []) hcf hmet (vx_cwSW (hh := [(0, 12, 15, 13), (0, 12, 19, 25)]) (bytes := cX0_house) (maxL := 6) (ret := some .int) 5 hts (lw_SW q650 q651 q34 q652) rfl r1 r2 (by decide +kernel) ⟨by show _ ≤ 22; omega, by show _ ≤ 10924; omega⟩) hE hA0 hM hN hap hS rfl hl.1 rfl (Nat.le_of_ble_eq_true rfl) dL_law_518 ⟨by show _ ≤ 1200384; omega, by show _ ≤ 5488298; omega⟩ (fun r9 ad2 H locs hr9 hM hN hap hS => ?_)
    obtain ⟨hr9, had2⟩ := hr9
    subst hr9
    rw [← had2] at hl
    refine W.widen (k := 300 + 800 * t + 700) (n := 33000 + 3500 * t + 3300) (by omega) (by omega) ?_
    refine lv_istore (lv' := [(5, .int r9), (0, .ref b), (1, .ref (ad2 0 0)), (2, .ref (adm 30 0)), (3, .ref oa), (4, .int (nI (7 * t)))]) hx hb dL_law_521 hl (by decide) rfl (fun ls hl => ?_)
    refine lv_aload_n hx hb dL_law_523 rfl (lv_at hl 3 rfl) ?_
    refine lv_aload_n hx hb dL_law_524 rfl (lv_at hl 1 rfl) ?_
    refine lv_iload hx hb dL_law_525 (lv_at hl 5 rfl) ?_
    refine lv_iconst (v := 1) hx hb dL_law_527 (by decide) ?_
    refine lv_iadd hx hb dL_law_528 ?_
    refine m_topI (y := nI ((7 * t) + 1)) (nI_add (7 * t) 1) ?_
    refine va_sld hx hb hX hbl hbA hS (m_in (i := nI ((7 * t) + 1)) (j := ((7 * t) + 1)) rfl (by omega) (by omega)).1 dL_law_529 ?_
    refine m_topI (y := xs ((7 * t) + 1)) (by rw [nI_clamp (by omega)]) ?_
    refine lv_aload_n hx hb dL_law_530 rfl (lv_at hl 1 rfl) ?_
    refine lv_iload hx hb dL_law_531 (lv_at hl 5 rfl) ?_
    refine lv_iconst (v := 2) hx hb dL_law_533 (by decide) ?_
    refine lv_iadd hx hb dL_law_534 ?_
    refine m_topI (y := nI ((7 * t) + 2)) (nI_add (7 * t) 2) ?_
    refine va_sld hx hb hX hbl hbA hS (m_in (i := nI ((7 * t) + 2)) (j := ((7 * t) + 2)) rfl (by omega) (by omega)).1 dL_law_535 ?_
    refine m_topI (y := xs ((7 * t) + 2)) (by rw [nI_clamp (by omega)]) ?_
    refine lv_aload_n hx hb dL_law_536 rfl (lv_at hl 1 rfl) ?_
    refine lv_iload hx hb dL_law_537 (lv_at hl 5 rfl) ?_
    refine lv_iconst (v := 3) hx hb dL_law_539 (by decide) ?_
    refine lv_iadd hx hb dL_law_540 ?_
    refine m_topI (y := nI ((7 * t) + 3)) (nI_add (7 * t) 3) ?_
    refine va_sld hx hb hX hbl hbA hS (m_in (i := nI ((7 * t) + 3)) (j := ((7 * t) + 3)) rfl (by omega) (by omega)).1 dL_law_541 ?_
    refine m_topI (y := xs ((7 * t) + 3)) (by rw [nI_clamp (by omega)]) ?_
    have J_10 : ∀ (v_8 : Int32), ((if (xs ((7 * t) + 3)) = 0 then 0 else 1) = v_8) → W p l e room_1 s m args below meth c H locs (300 + 800 * t + 700) (33000 + 3500 * t + 3300) Q (F0 m 550 ls [.int v_8, .int (xs ((7 * t) + 2)), .int (xs ((7 * t) + 1)), .ref (adm 30 0)]) := by
      intro v_8 ev_9
      refine m_topI (y := v_2) (ev_9.symm.trans ev_3) ?_
      obtain ⟨rm8, mc8, ms8, ⟨q1, q2, q3, q4, q5, q6⟩, hmet8⟩ := hmod adm
      refine l_cI (post := fun r (_ : Unit) => r = bv) (M' := fun _ => mwM g adm y1) (As := [.int (xs ((7 * t) + 1)), .int (xs ((7 * t) + 2)), .int v_2]) (rest := []) hcf hmet8 (cwV 3 hts (lw_V q1121 q1122 q1123 q41 q1124) rfl q1 q2 (by decide +kernel) ⟨by show _ ≤ 22; omega, by show _ ≤ 10924; omega⟩) hE hA0 hN hM hap.sy hS 30 0 (mwM_o g adm z) (ci := 1) rfl rfl hl.1 rfl (Nat.le_of_ble_eq_true rfl) dL_law_550 ⟨by show _ ≤ 1200384; omega, by show _ ≤ 5488298; omega⟩ (fun r8 _ H locs hr8 hN hM hap hS => ?_)
      have hap := hap.sy
      subst hr8
      refine lv_istore (lv' := [(6, .int r8), (5, .int r9), (0, .ref b), (1, .ref (ad2 0 0)), (2, .ref (adm 30 0)), (3, .ref oa), (4, .int (nI (7 * t)))]) hx hb dL_law_553 hl (by decide) rfl (fun ls hl => ?_)
      refine lv_aload_n hx hb dL_law_555 rfl (lv_at hl 4 rfl) ?_
      refine l_cI (post := fun r (_ : Unit) => r = y1.1 0 0) (M' := fun _ => mwM g adm y1) (As := []) (rest := []) hcf (fun A9 => k_X4_thrown l g A9 adm y1) (cwV 0 hts (lw_V q1033 q1034 q1035 q41 q1036) rfl rfl rfl (by decide +kernel) ⟨Nat.le_of_ble_eq_true rfl, Nat.le_of_ble_eq_true rfl⟩) hE hA0 hN hM hap.sy hS 30 0 (mwM_o g adm y1) (ci := 1) rfl rfl hl.1 rfl (Nat.le_of_ble_eq_true rfl) dL_law_556 ⟨by show _ ≤ 1200384; omega, by show _ ≤ 5488298; omega⟩ (fun r7 _ H locs hr7 hN hM hap hS => ?_)
      have hap := hap.sy
      subst hr7
      refine m_topI (y := r9) (hth) ?_
      refine lv_iload hx hb dL_law_559 (lv_at hl 1 rfl) ?_
      refine lv_icmp_eq (tgt := 566) hx hb dL_law_561 (by decide) (fun _ => ?_) (fun c9 => absurd rfl c9)
      refine lv_iload hx hb dL_law_566 (lv_at hl 1 rfl) ?_
      refine lv_if_ne (tgt := 583) hx hb dL_law_568 (by decide) (fun c_14 => ?_) (fun c_14 => ?_)
      · refine lv_goto (tgt := 1334) hx hb dL_law_583 (by decide) ?_
        refine W.widen (k := 300 + 800 * (t + 1)) (n := 33000 + 3500 * (t + 1)) (by omega) (by omega) ?_
        exact kk (mrg x1 y1) ad2 (o9 v) H locs ls hI2 (hM.congr (cw_mrg hag)) (hN.congr mw_mrg) ((hap.cl (cw_mrg hag)).cr mw_mrg) hS (lv_sub hl [2, 3, 4, 5, 6] rfl)
      · refine lv_aload_n hx hb dL_law_571 rfl (lv_at hl 5 rfl) ?_
        refine lv_iconst (v := 0) hx hb dL_law_572 (by decide) ?_
        refine m_lald hx hb hE hM 50 0 cw_out 0 (by decide) (by decide) rfl dL_law_573 ?_
        refine lv_iload hx hb dL_law_574 (lv_at hl 0 rfl) ?_
        refine lv_i2l hx hb dL_law_576 rfl ?_
        refine W.lcmp hx hb dL_law_577 ?_
        refine lv_if_eq (tgt := 583) hx hb dL_law_578 (by decide) (fun _ => ?_) (fun c9 => absurd (by rw [heq c_14 v]; exact lg_same _) c9)
        refine lv_goto (tgt := 1334) hx hb dL_law_583 (by decide) ?_
        refine W.widen (k := 300 + 800 * (t + 1)) (n := 33000 + 3500 * (t + 1)) (by omega) (by omega) ?_
        exact kk (mrg x1 y1) ad2 (o9 v) H locs ls hI2 (hM.congr (cw_mrg hag)) (hN.congr mw_mrg) ((hap.cl (cw_mrg hag)).cr mw_mrg) hS (lv_sub hl [2, 3, 4, 5, 6] rfl)
    refine lv_if_eq (tgt := 549) hx hb dL_law_542 (by decide) (fun c_7 => ?_) (fun c_7 => ?_)
    · refine lv_iconst (v := 0) hx hb dL_law_549 (by decide) ?_
      exact J_10 _ (by first | (rw [if_pos c_7]) | rfl | (simp only [c_7, if_true, if_false, ite_true, ite_false, not_false_eq_true, reduceIte]))
    · refine lv_iconst (v := 1) hx hb dL_law_545 (by decide) ?_
      refine lv_goto (tgt := 550) hx hb dL_law_546 (by decide) ?_
      exact J_10 _ (by first | (rw [if_neg c_7]) | rfl | (simp only [c_7, if_true, if_false, ite_true, ite_false, not_false_eq_true, reduceIte]))
  refine lv_if_eq (tgt := 516) hx hb dL_law_509 (by decide) (fun c_1 => ?_) (fun c_1 => ?_)
  · refine lv_iconst (v := 0) hx hb dL_law_516 (by decide) ?_
    exact J_4 _ (by first | (rw [if_pos c_1]) | rfl | (simp only [c_1, if_true, if_false, ite_true, ite_false, not_false_eq_true, reduceIte]))
  · refine lv_iconst (v := 1) hx hb dL_law_512 (by decide) ?_
    refine lv_goto (tgt := 517) hx hb dL_law_513 (by decide) ?_
    exact J_4 _ (by first | (rw [if_neg c_1]) | rfl | (simp only [c_1, if_true, if_false, ite_true, ite_false, not_false_eq_true, reduceIte]))

set_option maxHeartbeats 1000000 in
theorem law_borehole {p : Program} {l : Launch} {e : Env} {s : State} {m : MethodId} {args : Array Value} {below : List Frame} {meth : Method} {c : Code} {Q : State → Prop} {H : Heap} {locs : List Loc} {ls : Array Slot} {g : GG} {b L : Nat} {xs : Nat → Int32} {Inv I2 : St → Prop} (hcf : CallFix p m c cL_law 8 s args lw_all "WakegroundLaw") (hE : amb g (fun q => s.heap.size ≤ q) s s.heap) (hX : va_X b L xs s s.heap) (hbl : b < s.heap.size) (hop : Op_borehole l g Inv I2) (t : Nat) (ht : 7 * t + 7 ≤ L) (hL : L ≤ 448) (z : St) (hI : Inv z) (ad adm : Nat → Nat → Nat) (oa : Nat) (v : Int64) (hM : mW g.1 (fun q => s.heap.size ≤ q) (cwM g ad (Mo g oa v) z) H) (hN : mW g.1 (fun q => s.heap.size ≤ q) (mwM g adm z) H) (hap : apart (cwM g ad (Mo g oa v) z) (mwM g adm z)) (hS : va_S (fun q => s.heap.size ≤ q) s.heap H locs) (hl : lv_has ls 8 [(0, .ref b), (1, .ref (ad 0 0)), (2, .ref (adm 30 0)), (3, .ref oa), (4, .int (nI (7 * t)))])
    (kk : ∀ (z : St) (ad : Nat → Nat → Nat) (v : Int64) (H : Heap) (locs : List Loc) (ls : Array Slot), I2 z → mW g.1 (fun q => s.heap.size ≤ q) (cwM g ad (Mo g oa v) z) H → mW g.1 (fun q => s.heap.size ≤ q) (mwM g adm z) H → apart (cwM g ad (Mo g oa v) z) (mwM g adm z) → va_S (fun q => s.heap.size ≤ q) s.heap H locs → lv_has ls 8 [(0, .ref b), (1, .ref (ad 0 0)), (2, .ref (adm 30 0)), (3, .ref oa), (4, .int (nI (7 * t)))] → W p l e room_1 s m args below meth c H locs (300 + 800 * (t + 1)) (33000 + 3500 * (t + 1)) Q (F0 m 1334 ls [])) : W p l e room_1 s m args below meth c H locs (300 + 800 * t) (33000 + 3500 * t) Q (F0 m 586 ls []) := by
  have hx := hcf.1
  have hb := hcf.2.1
  have hml := hcf.2.2.1
  have hown := hcf.2.2.2.1
  have hts := hcf.2.2.2.2
  have hA0 : ∀ q : Nat, s.heap.size ≤ q → (fun q : Nat => s.heap.size ≤ q) q := fun _ h => h
  have hbA : ¬ (fun q : Nat => s.heap.size ≤ q) b := Nat.not_le.mpr hbl
  refine lv_aload_n hx hb dL_law_586 rfl (lv_at hl 1 rfl) ?_
  refine lv_aload_n hx hb dL_law_587 rfl (lv_at hl 0 rfl) ?_
  refine lv_iload hx hb dL_law_588 (lv_at hl 4 rfl) ?_
  refine lv_iconst (v := 1) hx hb dL_law_590 (by decide) ?_
  refine lv_iadd hx hb dL_law_591 ?_
  refine m_topI (y := nI ((7 * t) + 1)) (nI_add (7 * t) 1) ?_
  refine va_sld hx hb hX hbl hbA hS (m_in (i := nI ((7 * t) + 1)) (j := ((7 * t) + 1)) rfl (by omega) (by omega)).1 dL_law_592 ?_
  refine m_topI (y := xs ((7 * t) + 1)) (by rw [nI_clamp (by omega)]) ?_
  refine lv_aload_n hx hb dL_law_593 rfl (lv_at hl 0 rfl) ?_
  refine lv_iload hx hb dL_law_594 (lv_at hl 4 rfl) ?_
  refine lv_iconst (v := 2) hx hb dL_law_596 (by decide) ?_
  refine lv_iadd hx hb dL_law_597 ?_
  refine m_topI (y := nI ((7 * t) + 2)) (nI_add (7 * t) 2) ?_
  refine va_sld hx hb hX hbl hbA hS (m_in (i := nI ((7 * t) + 2)) (j := ((7 * t) + 2)) rfl (by omega) (by omega)).1 dL_law_598 ?_
  refine m_topI (y := xs ((7 * t) + 2)) (by rw [nI_clamp (by omega)]) ?_
  refine lv_aload_n hx hb dL_law_599 rfl (lv_at hl 3 rfl) ?_
  obtain ⟨kc, o9, bv, x1, y1, hcls, hmod, hth, heq, hag, hI2⟩ := hop z hI (xs ((7 * t) + 1)) (xs ((7 * t) + 2))
  obtain ⟨rm9, mc9, ms9, ⟨r1, r2, r3, r4, r5, r6⟩, hmet⟩ := hcls ad oa v
  refine l_cW (As := [.ref (ad 0 0), .int (xs ((7 * t) + 1)), .int (xs ((7 * t) + 2)), .ref oa]) (rest := []) hcf hmet (vx_cwSW (hh := [(0, 10, 13, 13), (0, 10, 17, 15), (0, 10, 21, 25)]) (bytes := cX0_borehole) (maxL := 5) (ret := some .int) 4 hts (lw_SW q739 q740 q34 q741) rfl r1 r2 (by decide +kernel) ⟨by show _ ≤ 22; omega, by show _ ≤ 10924; omega⟩) hE hA0 hM hN hap hS rfl hl.1 rfl (Nat.le_of_ble_eq_true rfl) dL_law_600 ⟨by show _ ≤ 1200384; omega, by show _ ≤ 5488298; omega⟩ (fun r9 ad2 H locs hr9 hM hN hap hS => ?_)
  obtain ⟨hr9, had2⟩ := hr9
  subst hr9
  rw [← had2] at hl
  refine W.widen (k := 300 + 800 * t + 700) (n := 33000 + 3500 * t + 3300) (by omega) (by omega) ?_
  refine lv_istore (lv' := [(5, .int r9), (0, .ref b), (1, .ref (ad2 0 0)), (2, .ref (adm 30 0)), (3, .ref oa), (4, .int (nI (7 * t)))]) hx hb dL_law_603 hl (by decide) rfl (fun ls hl => ?_)
  refine lv_aload_n hx hb dL_law_605 rfl (lv_at hl 3 rfl) ?_
  refine lv_aload_n hx hb dL_law_606 rfl (lv_at hl 1 rfl) ?_
  refine lv_iload hx hb dL_law_607 (lv_at hl 5 rfl) ?_
  refine lv_iconst (v := 1) hx hb dL_law_609 (by decide) ?_
  refine lv_iadd hx hb dL_law_610 ?_
  refine m_topI (y := nI ((7 * t) + 1)) (nI_add (7 * t) 1) ?_
  refine va_sld hx hb hX hbl hbA hS (m_in (i := nI ((7 * t) + 1)) (j := ((7 * t) + 1)) rfl (by omega) (by omega)).1 dL_law_611 ?_
  refine m_topI (y := xs ((7 * t) + 1)) (by rw [nI_clamp (by omega)]) ?_
  refine lv_aload_n hx hb dL_law_612 rfl (lv_at hl 1 rfl) ?_
  refine lv_iload hx hb dL_law_613 (lv_at hl 5 rfl) ?_
  refine lv_iconst (v := 2) hx hb dL_law_615 (by decide) ?_
  refine lv_iadd hx hb dL_law_616 ?_
  refine m_topI (y := nI ((7 * t) + 2)) (nI_add (7 * t) 2) ?_
  refine va_sld hx hb hX hbl hbA hS (m_in (i := nI ((7 * t) + 2)) (j := ((7 * t) + 2)) rfl (by omega) (by omega)).1 dL_law_617 ?_
  refine m_topI (y := xs ((7 * t) + 2)) (by rw [nI_clamp (by omega)]) ?_
  obtain ⟨rm8, mc8, ms8, ⟨q1, q2, q3, q4, q5, q6⟩, hmet8⟩ := hmod adm
  refine l_cI (post := fun r (_ : Unit) => r = bv) (M' := fun _ => mwM g adm y1) (As := [.int (xs ((7 * t) + 1)), .int (xs ((7 * t) + 2))]) (rest := []) hcf hmet8 (cwV 2 hts (lw_V q1129 q1130 q1131 q41 q1132) rfl q1 q2 (by decide +kernel) ⟨by show _ ≤ 22; omega, by show _ ≤ 10924; omega⟩) hE hA0 hN hM hap.sy hS 30 0 (mwM_o g adm z) (ci := 1) rfl rfl hl.1 rfl (Nat.le_of_ble_eq_true rfl) dL_law_618 ⟨by show _ ≤ 1200384; omega, by show _ ≤ 5488298; omega⟩ (fun r8 _ H locs hr8 hN hM hap hS => ?_)
  have hap := hap.sy
  subst hr8
  refine lv_istore (lv' := [(6, .int r8), (5, .int r9), (0, .ref b), (1, .ref (ad2 0 0)), (2, .ref (adm 30 0)), (3, .ref oa), (4, .int (nI (7 * t)))]) hx hb dL_law_621 hl (by decide) rfl (fun ls hl => ?_)
  refine lv_aload_n hx hb dL_law_623 rfl (lv_at hl 4 rfl) ?_
  refine l_cI (post := fun r (_ : Unit) => r = y1.1 0 0) (M' := fun _ => mwM g adm y1) (As := []) (rest := []) hcf (fun A9 => k_X4_thrown l g A9 adm y1) (cwV 0 hts (lw_V q1033 q1034 q1035 q41 q1036) rfl rfl rfl (by decide +kernel) ⟨Nat.le_of_ble_eq_true rfl, Nat.le_of_ble_eq_true rfl⟩) hE hA0 hN hM hap.sy hS 30 0 (mwM_o g adm y1) (ci := 1) rfl rfl hl.1 rfl (Nat.le_of_ble_eq_true rfl) dL_law_624 ⟨by show _ ≤ 1200384; omega, by show _ ≤ 5488298; omega⟩ (fun r7 _ H locs hr7 hN hM hap hS => ?_)
  have hap := hap.sy
  subst hr7
  refine m_topI (y := r9) (hth) ?_
  refine lv_iload hx hb dL_law_627 (lv_at hl 1 rfl) ?_
  refine lv_icmp_eq (tgt := 634) hx hb dL_law_629 (by decide) (fun _ => ?_) (fun c9 => absurd rfl c9)
  refine lv_iload hx hb dL_law_634 (lv_at hl 1 rfl) ?_
  refine lv_if_ne (tgt := 651) hx hb dL_law_636 (by decide) (fun c_6 => ?_) (fun c_6 => ?_)
  · refine lv_goto (tgt := 1334) hx hb dL_law_651 (by decide) ?_
    refine W.widen (k := 300 + 800 * (t + 1)) (n := 33000 + 3500 * (t + 1)) (by omega) (by omega) ?_
    exact kk (mrg x1 y1) ad2 (o9 v) H locs ls hI2 (hM.congr (cw_mrg hag)) (hN.congr mw_mrg) ((hap.cl (cw_mrg hag)).cr mw_mrg) hS (lv_sub hl [2, 3, 4, 5, 6] rfl)
  · refine lv_aload_n hx hb dL_law_639 rfl (lv_at hl 5 rfl) ?_
    refine lv_iconst (v := 0) hx hb dL_law_640 (by decide) ?_
    refine m_lald hx hb hE hM 50 0 cw_out 0 (by decide) (by decide) rfl dL_law_641 ?_
    refine lv_iload hx hb dL_law_642 (lv_at hl 0 rfl) ?_
    refine lv_i2l hx hb dL_law_644 rfl ?_
    refine W.lcmp hx hb dL_law_645 ?_
    refine lv_if_eq (tgt := 651) hx hb dL_law_646 (by decide) (fun _ => ?_) (fun c9 => absurd (by rw [heq c_6 v]; exact lg_same _) c9)
    refine lv_goto (tgt := 1334) hx hb dL_law_651 (by decide) ?_
    refine W.widen (k := 300 + 800 * (t + 1)) (n := 33000 + 3500 * (t + 1)) (by omega) (by omega) ?_
    exact kk (mrg x1 y1) ad2 (o9 v) H locs ls hI2 (hM.congr (cw_mrg hag)) (hN.congr mw_mrg) ((hap.cl (cw_mrg hag)).cr mw_mrg) hS (lv_sub hl [2, 3, 4, 5, 6] rfl)

set_option maxHeartbeats 1000000 in
theorem law_claim {p : Program} {l : Launch} {e : Env} {s : State} {m : MethodId} {args : Array Value} {below : List Frame} {meth : Method} {c : Code} {Q : State → Prop} {H : Heap} {locs : List Loc} {ls : Array Slot} {g : GG} {b L : Nat} {xs : Nat → Int32} {Inv I2 : St → Prop} (hcf : CallFix p m c cL_law 8 s args lw_all "WakegroundLaw") (hE : amb g (fun q => s.heap.size ≤ q) s s.heap) (hX : va_X b L xs s s.heap) (hbl : b < s.heap.size) (hop : Op_claim l g Inv I2) (t : Nat) (ht : 7 * t + 7 ≤ L) (hL : L ≤ 448) (z : St) (hI : Inv z) (ad adm : Nat → Nat → Nat) (oa : Nat) (v : Int64) (hM : mW g.1 (fun q => s.heap.size ≤ q) (cwM g ad (Mo g oa v) z) H) (hN : mW g.1 (fun q => s.heap.size ≤ q) (mwM g adm z) H) (hap : apart (cwM g ad (Mo g oa v) z) (mwM g adm z)) (hS : va_S (fun q => s.heap.size ≤ q) s.heap H locs) (hl : lv_has ls 8 [(0, .ref b), (1, .ref (ad 0 0)), (2, .ref (adm 30 0)), (3, .ref oa), (4, .int (nI (7 * t)))])
    (kk : ∀ (z : St) (ad : Nat → Nat → Nat) (v : Int64) (H : Heap) (locs : List Loc) (ls : Array Slot), I2 z → mW g.1 (fun q => s.heap.size ≤ q) (cwM g ad (Mo g oa v) z) H → mW g.1 (fun q => s.heap.size ≤ q) (mwM g adm z) H → apart (cwM g ad (Mo g oa v) z) (mwM g adm z) → va_S (fun q => s.heap.size ≤ q) s.heap H locs → lv_has ls 8 [(0, .ref b), (1, .ref (ad 0 0)), (2, .ref (adm 30 0)), (3, .ref oa), (4, .int (nI (7 * t)))] → W p l e room_1 s m args below meth c H locs (300 + 800 * (t + 1)) (33000 + 3500 * (t + 1)) Q (F0 m 1334 ls [])) : W p l e room_1 s m args below meth c H locs (300 + 800 * t) (33000 + 3500 * t) Q (F0 m 654 ls []) := by
  have hx := hcf.1
  have hb := hcf.2.1
  have hml := hcf.2.2.1
  have hown := hcf.2.2.2.1
  have hts := hcf.2.2.2.2
  have hA0 : ∀ q : Nat, s.heap.size ≤ q → (fun q : Nat => s.heap.size ≤ q) q := fun _ h => h
  have hbA : ¬ (fun q : Nat => s.heap.size ≤ q) b := Nat.not_le.mpr hbl
  refine lv_aload_n hx hb dL_law_654 rfl (lv_at hl 1 rfl) ?_
  refine lv_aload_n hx hb dL_law_655 rfl (lv_at hl 0 rfl) ?_
  refine lv_iload hx hb dL_law_656 (lv_at hl 4 rfl) ?_
  refine lv_iconst (v := 1) hx hb dL_law_658 (by decide) ?_
  refine lv_iadd hx hb dL_law_659 ?_
  refine m_topI (y := nI ((7 * t) + 1)) (nI_add (7 * t) 1) ?_
  refine va_sld hx hb hX hbl hbA hS (m_in (i := nI ((7 * t) + 1)) (j := ((7 * t) + 1)) rfl (by omega) (by omega)).1 dL_law_660 ?_
  refine m_topI (y := xs ((7 * t) + 1)) (by rw [nI_clamp (by omega)]) ?_
  refine lv_aload_n hx hb dL_law_661 rfl (lv_at hl 3 rfl) ?_
  obtain ⟨kc, o9, bv, x1, y1, hcls, hmod, hth, heq, hag, hI2⟩ := hop z hI (xs ((7 * t) + 1))
  obtain ⟨rm9, mc9, ms9, ⟨r1, r2, r3, r4, r5, r6⟩, hmet⟩ := hcls ad oa v
  refine l_cW (As := [.ref (ad 0 0), .int (xs ((7 * t) + 1)), .ref oa]) (rest := []) hcf hmet (vx_cwSW (hh := [(0, 9, 12, 13), (0, 9, 15, 25)]) (bytes := cX0_claim) (maxL := 4) (ret := some .int) 3 hts (lw_SW q763 q764 q34 q765) rfl r1 r2 (by decide +kernel) ⟨by show _ ≤ 22; omega, by show _ ≤ 10924; omega⟩) hE hA0 hM hN hap hS rfl hl.1 rfl (Nat.le_of_ble_eq_true rfl) dL_law_662 ⟨by show _ ≤ 1200384; omega, by show _ ≤ 5488298; omega⟩ (fun r9 ad2 H locs hr9 hM hN hap hS => ?_)
  obtain ⟨hr9, had2⟩ := hr9
  subst hr9
  rw [← had2] at hl
  refine W.widen (k := 300 + 800 * t + 700) (n := 33000 + 3500 * t + 3300) (by omega) (by omega) ?_
  refine lv_istore (lv' := [(5, .int r9), (0, .ref b), (1, .ref (ad2 0 0)), (2, .ref (adm 30 0)), (3, .ref oa), (4, .int (nI (7 * t)))]) hx hb dL_law_665 hl (by decide) rfl (fun ls hl => ?_)
  refine lv_aload_n hx hb dL_law_667 rfl (lv_at hl 3 rfl) ?_
  refine lv_aload_n hx hb dL_law_668 rfl (lv_at hl 1 rfl) ?_
  refine lv_iload hx hb dL_law_669 (lv_at hl 5 rfl) ?_
  refine lv_iconst (v := 1) hx hb dL_law_671 (by decide) ?_
  refine lv_iadd hx hb dL_law_672 ?_
  refine m_topI (y := nI ((7 * t) + 1)) (nI_add (7 * t) 1) ?_
  refine va_sld hx hb hX hbl hbA hS (m_in (i := nI ((7 * t) + 1)) (j := ((7 * t) + 1)) rfl (by omega) (by omega)).1 dL_law_673 ?_
  refine m_topI (y := xs ((7 * t) + 1)) (by rw [nI_clamp (by omega)]) ?_
  obtain ⟨rm8, mc8, ms8, ⟨q1, q2, q3, q4, q5, q6⟩, hmet8⟩ := hmod adm
  refine l_cI (post := fun r (_ : Unit) => r = bv) (M' := fun _ => mwM g adm y1) (As := [.int (xs ((7 * t) + 1))]) (rest := []) hcf hmet8 (cwV 1 hts (lw_V q1133 q1134 q1135 q41 q1136) rfl q1 q2 (by decide +kernel) ⟨by show _ ≤ 22; omega, by show _ ≤ 10924; omega⟩) hE hA0 hN hM hap.sy hS 30 0 (mwM_o g adm z) (ci := 1) rfl rfl hl.1 rfl (Nat.le_of_ble_eq_true rfl) dL_law_674 ⟨by show _ ≤ 1200384; omega, by show _ ≤ 5488298; omega⟩ (fun r8 _ H locs hr8 hN hM hap hS => ?_)
  have hap := hap.sy
  subst hr8
  refine lv_istore (lv' := [(6, .int r8), (5, .int r9), (0, .ref b), (1, .ref (ad2 0 0)), (2, .ref (adm 30 0)), (3, .ref oa), (4, .int (nI (7 * t)))]) hx hb dL_law_677 hl (by decide) rfl (fun ls hl => ?_)
  refine lv_aload_n hx hb dL_law_679 rfl (lv_at hl 4 rfl) ?_
  refine l_cI (post := fun r (_ : Unit) => r = y1.1 0 0) (M' := fun _ => mwM g adm y1) (As := []) (rest := []) hcf (fun A9 => k_X4_thrown l g A9 adm y1) (cwV 0 hts (lw_V q1033 q1034 q1035 q41 q1036) rfl rfl rfl (by decide +kernel) ⟨Nat.le_of_ble_eq_true rfl, Nat.le_of_ble_eq_true rfl⟩) hE hA0 hN hM hap.sy hS 30 0 (mwM_o g adm y1) (ci := 1) rfl rfl hl.1 rfl (Nat.le_of_ble_eq_true rfl) dL_law_680 ⟨by show _ ≤ 1200384; omega, by show _ ≤ 5488298; omega⟩ (fun r7 _ H locs hr7 hN hM hap hS => ?_)
  have hap := hap.sy
  subst hr7
  refine m_topI (y := r9) (hth) ?_
  refine lv_iload hx hb dL_law_683 (lv_at hl 1 rfl) ?_
  refine lv_icmp_eq (tgt := 690) hx hb dL_law_685 (by decide) (fun _ => ?_) (fun c9 => absurd rfl c9)
  refine lv_iload hx hb dL_law_690 (lv_at hl 1 rfl) ?_
  refine lv_if_ne (tgt := 707) hx hb dL_law_692 (by decide) (fun c_6 => ?_) (fun c_6 => ?_)
  · refine lv_goto (tgt := 1334) hx hb dL_law_707 (by decide) ?_
    refine W.widen (k := 300 + 800 * (t + 1)) (n := 33000 + 3500 * (t + 1)) (by omega) (by omega) ?_
    exact kk (mrg x1 y1) ad2 (o9 v) H locs ls hI2 (hM.congr (cw_mrg hag)) (hN.congr mw_mrg) ((hap.cl (cw_mrg hag)).cr mw_mrg) hS (lv_sub hl [2, 3, 4, 5, 6] rfl)
  · refine lv_aload_n hx hb dL_law_695 rfl (lv_at hl 5 rfl) ?_
    refine lv_iconst (v := 0) hx hb dL_law_696 (by decide) ?_
    refine m_lald hx hb hE hM 50 0 cw_out 0 (by decide) (by decide) rfl dL_law_697 ?_
    refine lv_iload hx hb dL_law_698 (lv_at hl 0 rfl) ?_
    refine lv_i2l hx hb dL_law_700 rfl ?_
    refine W.lcmp hx hb dL_law_701 ?_
    refine lv_if_eq (tgt := 707) hx hb dL_law_702 (by decide) (fun _ => ?_) (fun c9 => absurd (by rw [heq c_6 v]; exact lg_same _) c9)
    refine lv_goto (tgt := 1334) hx hb dL_law_707 (by decide) ?_
    refine W.widen (k := 300 + 800 * (t + 1)) (n := 33000 + 3500 * (t + 1)) (by omega) (by omega) ?_
    exact kk (mrg x1 y1) ad2 (o9 v) H locs ls hI2 (hM.congr (cw_mrg hag)) (hN.congr mw_mrg) ((hap.cl (cw_mrg hag)).cr mw_mrg) hS (lv_sub hl [2, 3, 4, 5, 6] rfl)

set_option maxHeartbeats 1000000 in
theorem law_month {p : Program} {l : Launch} {e : Env} {s : State} {m : MethodId} {args : Array Value} {below : List Frame} {meth : Method} {c : Code} {Q : State → Prop} {H : Heap} {locs : List Loc} {ls : Array Slot} {g : GG} {b L : Nat} {xs : Nat → Int32} {Inv I2 : St → Prop} (hcf : CallFix p m c cL_law 8 s args lw_all "WakegroundLaw") (hE : amb g (fun q => s.heap.size ≤ q) s s.heap) (hX : va_X b L xs s s.heap) (hbl : b < s.heap.size) (hop : Op_month l g Inv I2) (t : Nat) (ht : 7 * t + 7 ≤ L) (hL : L ≤ 448) (z : St) (hI : Inv z) (ad adm : Nat → Nat → Nat) (oa : Nat) (v : Int64) (hM : mW g.1 (fun q => s.heap.size ≤ q) (cwM g ad (Mo g oa v) z) H) (hN : mW g.1 (fun q => s.heap.size ≤ q) (mwM g adm z) H) (hap : apart (cwM g ad (Mo g oa v) z) (mwM g adm z)) (hS : va_S (fun q => s.heap.size ≤ q) s.heap H locs) (hl : lv_has ls 8 [(0, .ref b), (1, .ref (ad 0 0)), (2, .ref (adm 30 0)), (3, .ref oa), (4, .int (nI (7 * t)))])
    (kk : ∀ (z : St) (ad : Nat → Nat → Nat) (v : Int64) (H : Heap) (locs : List Loc) (ls : Array Slot), I2 z → mW g.1 (fun q => s.heap.size ≤ q) (cwM g ad (Mo g oa v) z) H → mW g.1 (fun q => s.heap.size ≤ q) (mwM g adm z) H → apart (cwM g ad (Mo g oa v) z) (mwM g adm z) → va_S (fun q => s.heap.size ≤ q) s.heap H locs → lv_has ls 8 [(0, .ref b), (1, .ref (ad 0 0)), (2, .ref (adm 30 0)), (3, .ref oa), (4, .int (nI (7 * t)))] → W p l e room_1 s m args below meth c H locs (300 + 800 * (t + 1)) (33000 + 3500 * (t + 1)) Q (F0 m 1334 ls [])) : W p l e room_1 s m args below meth c H locs (300 + 800 * t) (33000 + 3500 * t) Q (F0 m 710 ls []) := by
  have hx := hcf.1
  have hb := hcf.2.1
  have hml := hcf.2.2.1
  have hown := hcf.2.2.2.1
  have hts := hcf.2.2.2.2
  have hA0 : ∀ q : Nat, s.heap.size ≤ q → (fun q : Nat => s.heap.size ≤ q) q := fun _ h => h
  have hbA : ¬ (fun q : Nat => s.heap.size ≤ q) b := Nat.not_le.mpr hbl
  refine lv_aload_n hx hb dL_law_710 rfl (lv_at hl 1 rfl) ?_
  obtain ⟨bv, x1, y1, hcls, hmod, hag, hI2⟩ := hop z hI
  obtain ⟨rm9, mc9, ms9, ⟨r1, r2, r3, r4, r5, r6⟩, hmet⟩ := hcls ad oa v
  refine l_cI (post := fun r (_ : Unit) => r = bv) (M' := fun _ => cwM g ad (Mo g oa v) x1) (As := []) (rest := []) hcf hmet (cwV 0 hts (lw_V q211 q212 q213 q35 q214) rfl r1 r2 (by decide +kernel) ⟨by show _ ≤ 22; omega, by show _ ≤ 10924; omega⟩) hE hA0 hM hN hap hS 0 0 cw_0 (ci := 0) rfl rfl hl.1 rfl (Nat.le_of_ble_eq_true rfl) dL_law_711 ⟨by show _ ≤ 1200384; omega, by show _ ≤ 5488298; omega⟩ (fun r9 _ H locs hr9 hM hN hap hS => ?_)
  subst hr9
  refine W.widen (k := 300 + 800 * t + 700) (n := 33000 + 3500 * t + 3300) (by omega) (by omega) ?_
  refine lv_aload_n hx hb dL_law_714 rfl (lv_at hl 2 rfl) ?_
  obtain ⟨rm8, mc8, ms8, ⟨q1, q2, q3, q4, q5, q6⟩, hmet8⟩ := hmod adm
  refine l_cI (post := fun r (_ : Unit) => r = r9) (M' := fun _ => mwM g adm y1) (As := []) (rest := [.int r9]) hcf hmet8 (cwV 0 hts (lw_V q1145 q1146 q1147 q41 q1148) rfl q1 q2 (by decide +kernel) ⟨by show _ ≤ 22; omega, by show _ ≤ 10924; omega⟩) hE hA0 hN hM hap.sy hS 30 0 (mwM_o g adm z) (ci := 1) rfl rfl hl.1 rfl (Nat.le_of_ble_eq_true rfl) dL_law_715 ⟨by show _ ≤ 1200384; omega, by show _ ≤ 5488298; omega⟩ (fun r8 _ H locs hr8 hN hM hap hS => ?_)
  have hap := hap.sy
  subst hr8
  refine lv_icmp_eq (tgt := 1334) hx hb dL_law_718 (by decide) (fun _ => ?_) (fun c9 => absurd rfl c9)
  refine W.widen (k := 300 + 800 * (t + 1)) (n := 33000 + 3500 * (t + 1)) (by omega) (by omega) ?_
  exact kk (mrg x1 y1) ad (v) H locs ls hI2 (hM.congr (cw_mrg hag)) (hN.congr mw_mrg) ((hap.cl (cw_mrg hag)).cr mw_mrg) hS (lv_sub hl [0, 1, 2, 3, 4] rfl)

set_option maxHeartbeats 1000000 in
theorem law_cellOf {p : Program} {l : Launch} {e : Env} {s : State} {m : MethodId} {args : Array Value} {below : List Frame} {meth : Method} {c : Code} {Q : State → Prop} {H : Heap} {locs : List Loc} {ls : Array Slot} {g : GG} {b L : Nat} {xs : Nat → Int32} {Inv I2 : St → Prop} (hcf : CallFix p m c cL_law 8 s args lw_all "WakegroundLaw") (hE : amb g (fun q => s.heap.size ≤ q) s s.heap) (hX : va_X b L xs s s.heap) (hbl : b < s.heap.size) (hop : Op_cellOf l g Inv I2) (t : Nat) (ht : 7 * t + 7 ≤ L) (hL : L ≤ 448) (z : St) (hI : Inv z) (ad adm : Nat → Nat → Nat) (oa : Nat) (v : Int64) (hM : mW g.1 (fun q => s.heap.size ≤ q) (cwM g ad (Mo g oa v) z) H) (hN : mW g.1 (fun q => s.heap.size ≤ q) (mwM g adm z) H) (hap : apart (cwM g ad (Mo g oa v) z) (mwM g adm z)) (hS : va_S (fun q => s.heap.size ≤ q) s.heap H locs) (hl : lv_has ls 8 [(0, .ref b), (1, .ref (ad 0 0)), (2, .ref (adm 30 0)), (3, .ref oa), (4, .int (nI (7 * t)))])
    (kk : ∀ (z : St) (ad : Nat → Nat → Nat) (v : Int64) (H : Heap) (locs : List Loc) (ls : Array Slot), I2 z → mW g.1 (fun q => s.heap.size ≤ q) (cwM g ad (Mo g oa v) z) H → mW g.1 (fun q => s.heap.size ≤ q) (mwM g adm z) H → apart (cwM g ad (Mo g oa v) z) (mwM g adm z) → va_S (fun q => s.heap.size ≤ q) s.heap H locs → lv_has ls 8 [(0, .ref b), (1, .ref (ad 0 0)), (2, .ref (adm 30 0)), (3, .ref oa), (4, .int (nI (7 * t)))] → W p l e room_1 s m args below meth c H locs (300 + 800 * (t + 1)) (33000 + 3500 * (t + 1)) Q (F0 m 1334 ls [])) : W p l e room_1 s m args below meth c H locs (300 + 800 * t) (33000 + 3500 * t) Q (F0 m 723 ls []) := by
  have hx := hcf.1
  have hb := hcf.2.1
  have hml := hcf.2.2.1
  have hown := hcf.2.2.2.1
  have hts := hcf.2.2.2.2
  have hA0 : ∀ q : Nat, s.heap.size ≤ q → (fun q : Nat => s.heap.size ≤ q) q := fun _ h => h
  have hbA : ¬ (fun q : Nat => s.heap.size ≤ q) b := Nat.not_le.mpr hbl
  refine lv_aload_n hx hb dL_law_723 rfl (lv_at hl 1 rfl) ?_
  refine lv_aload_n hx hb dL_law_724 rfl (lv_at hl 0 rfl) ?_
  refine lv_iload hx hb dL_law_725 (lv_at hl 4 rfl) ?_
  refine lv_iconst (v := 1) hx hb dL_law_727 (by decide) ?_
  refine lv_iadd hx hb dL_law_728 ?_
  refine m_topI (y := nI ((7 * t) + 1)) (nI_add (7 * t) 1) ?_
  refine va_sld hx hb hX hbl hbA hS (m_in (i := nI ((7 * t) + 1)) (j := ((7 * t) + 1)) rfl (by omega) (by omega)).1 dL_law_729 ?_
  refine m_topI (y := xs ((7 * t) + 1)) (by rw [nI_clamp (by omega)]) ?_
  refine lv_aload_n hx hb dL_law_730 rfl (lv_at hl 0 rfl) ?_
  refine lv_iload hx hb dL_law_731 (lv_at hl 4 rfl) ?_
  refine lv_iconst (v := 2) hx hb dL_law_733 (by decide) ?_
  refine lv_iadd hx hb dL_law_734 ?_
  refine m_topI (y := nI ((7 * t) + 2)) (nI_add (7 * t) 2) ?_
  refine va_sld hx hb hX hbl hbA hS (m_in (i := nI ((7 * t) + 2)) (j := ((7 * t) + 2)) rfl (by omega) (by omega)).1 dL_law_735 ?_
  refine m_topI (y := xs ((7 * t) + 2)) (by rw [nI_clamp (by omega)]) ?_
  refine lv_aload_n hx hb dL_law_736 rfl (lv_at hl 3 rfl) ?_
  obtain ⟨kc, o9, bv, x1, y1, hcls, hmod, hth, heq, hag, hI2⟩ := hop z hI (xs ((7 * t) + 1)) (xs ((7 * t) + 2))
  obtain ⟨rm9, mc9, ms9, ⟨r1, r2, r3, r4, r5, r6⟩, hmet⟩ := hcls ad oa v
  refine l_cW (As := [.ref (ad 0 0), .int (xs ((7 * t) + 1)), .int (xs ((7 * t) + 2)), .ref oa]) (rest := []) hcf hmet (vx_cwSW (hh := [(0, 10, 13, 13), (0, 10, 17, 15)]) (bytes := cX0_cellOf) (maxL := 5) (ret := some .int) 4 hts (lw_SW q814 q815 q34 q816) rfl r1 r2 (by decide +kernel) ⟨by show _ ≤ 22; omega, by show _ ≤ 10924; omega⟩) hE hA0 hM hN hap hS rfl hl.1 rfl (Nat.le_of_ble_eq_true rfl) dL_law_737 ⟨by show _ ≤ 1200384; omega, by show _ ≤ 5488298; omega⟩ (fun r9 ad2 H locs hr9 hM hN hap hS => ?_)
  obtain ⟨hr9, had2⟩ := hr9
  subst hr9
  rw [← had2] at hl
  refine W.widen (k := 300 + 800 * t + 700) (n := 33000 + 3500 * t + 3300) (by omega) (by omega) ?_
  refine lv_istore (lv' := [(5, .int r9), (0, .ref b), (1, .ref (ad2 0 0)), (2, .ref (adm 30 0)), (3, .ref oa), (4, .int (nI (7 * t)))]) hx hb dL_law_740 hl (by decide) rfl (fun ls hl => ?_)
  refine lv_aload_n hx hb dL_law_742 rfl (lv_at hl 3 rfl) ?_
  refine lv_aload_n hx hb dL_law_743 rfl (lv_at hl 1 rfl) ?_
  refine lv_iload hx hb dL_law_744 (lv_at hl 5 rfl) ?_
  refine lv_iconst (v := 1) hx hb dL_law_746 (by decide) ?_
  refine lv_iadd hx hb dL_law_747 ?_
  refine m_topI (y := nI ((7 * t) + 1)) (nI_add (7 * t) 1) ?_
  refine va_sld hx hb hX hbl hbA hS (m_in (i := nI ((7 * t) + 1)) (j := ((7 * t) + 1)) rfl (by omega) (by omega)).1 dL_law_748 ?_
  refine m_topI (y := xs ((7 * t) + 1)) (by rw [nI_clamp (by omega)]) ?_
  refine lv_aload_n hx hb dL_law_749 rfl (lv_at hl 1 rfl) ?_
  refine lv_iload hx hb dL_law_750 (lv_at hl 5 rfl) ?_
  refine lv_iconst (v := 2) hx hb dL_law_752 (by decide) ?_
  refine lv_iadd hx hb dL_law_753 ?_
  refine m_topI (y := nI ((7 * t) + 2)) (nI_add (7 * t) 2) ?_
  refine va_sld hx hb hX hbl hbA hS (m_in (i := nI ((7 * t) + 2)) (j := ((7 * t) + 2)) rfl (by omega) (by omega)).1 dL_law_754 ?_
  refine m_topI (y := xs ((7 * t) + 2)) (by rw [nI_clamp (by omega)]) ?_
  obtain ⟨rm8, mc8, ms8, ⟨q1, q2, q3, q4, q5, q6⟩, hmet8⟩ := hmod adm
  refine l_cI (post := fun r (_ : Unit) => r = bv) (M' := fun _ => mwM g adm y1) (As := [.int (xs ((7 * t) + 1)), .int (xs ((7 * t) + 2))]) (rest := []) hcf hmet8 (cwV 2 hts (lw_V q1149 q1150 q1151 q41 q1152) rfl q1 q2 (by decide +kernel) ⟨by show _ ≤ 22; omega, by show _ ≤ 10924; omega⟩) hE hA0 hN hM hap.sy hS 30 0 (mwM_o g adm z) (ci := 1) rfl rfl hl.1 rfl (Nat.le_of_ble_eq_true rfl) dL_law_755 ⟨by show _ ≤ 1200384; omega, by show _ ≤ 5488298; omega⟩ (fun r8 _ H locs hr8 hN hM hap hS => ?_)
  have hap := hap.sy
  subst hr8
  refine lv_istore (lv' := [(6, .int r8), (5, .int r9), (0, .ref b), (1, .ref (ad2 0 0)), (2, .ref (adm 30 0)), (3, .ref oa), (4, .int (nI (7 * t)))]) hx hb dL_law_758 hl (by decide) rfl (fun ls hl => ?_)
  refine lv_aload_n hx hb dL_law_760 rfl (lv_at hl 4 rfl) ?_
  refine l_cI (post := fun r (_ : Unit) => r = y1.1 0 0) (M' := fun _ => mwM g adm y1) (As := []) (rest := []) hcf (fun A9 => k_X4_thrown l g A9 adm y1) (cwV 0 hts (lw_V q1033 q1034 q1035 q41 q1036) rfl rfl rfl (by decide +kernel) ⟨Nat.le_of_ble_eq_true rfl, Nat.le_of_ble_eq_true rfl⟩) hE hA0 hN hM hap.sy hS 30 0 (mwM_o g adm y1) (ci := 1) rfl rfl hl.1 rfl (Nat.le_of_ble_eq_true rfl) dL_law_761 ⟨by show _ ≤ 1200384; omega, by show _ ≤ 5488298; omega⟩ (fun r7 _ H locs hr7 hN hM hap hS => ?_)
  have hap := hap.sy
  subst hr7
  refine m_topI (y := r9) (hth) ?_
  refine lv_iload hx hb dL_law_764 (lv_at hl 1 rfl) ?_
  refine lv_icmp_eq (tgt := 771) hx hb dL_law_766 (by decide) (fun _ => ?_) (fun c9 => absurd rfl c9)
  refine lv_iload hx hb dL_law_771 (lv_at hl 1 rfl) ?_
  refine lv_if_ne (tgt := 788) hx hb dL_law_773 (by decide) (fun c_6 => ?_) (fun c_6 => ?_)
  · refine lv_goto (tgt := 1334) hx hb dL_law_788 (by decide) ?_
    refine W.widen (k := 300 + 800 * (t + 1)) (n := 33000 + 3500 * (t + 1)) (by omega) (by omega) ?_
    exact kk (mrg x1 y1) ad2 (o9 v) H locs ls hI2 (hM.congr (cw_mrg hag)) (hN.congr mw_mrg) ((hap.cl (cw_mrg hag)).cr mw_mrg) hS (lv_sub hl [2, 3, 4, 5, 6] rfl)
  · refine lv_aload_n hx hb dL_law_776 rfl (lv_at hl 5 rfl) ?_
    refine lv_iconst (v := 0) hx hb dL_law_777 (by decide) ?_
    refine m_lald hx hb hE hM 50 0 cw_out 0 (by decide) (by decide) rfl dL_law_778 ?_
    refine lv_iload hx hb dL_law_779 (lv_at hl 0 rfl) ?_
    refine lv_i2l hx hb dL_law_781 rfl ?_
    refine W.lcmp hx hb dL_law_782 ?_
    refine lv_if_eq (tgt := 788) hx hb dL_law_783 (by decide) (fun _ => ?_) (fun c9 => absurd (by rw [heq c_6 v]; exact lg_same _) c9)
    refine lv_goto (tgt := 1334) hx hb dL_law_788 (by decide) ?_
    refine W.widen (k := 300 + 800 * (t + 1)) (n := 33000 + 3500 * (t + 1)) (by omega) (by omega) ?_
    exact kk (mrg x1 y1) ad2 (o9 v) H locs ls hI2 (hM.congr (cw_mrg hag)) (hN.congr mw_mrg) ((hap.cl (cw_mrg hag)).cr mw_mrg) hS (lv_sub hl [2, 3, 4, 5, 6] rfl)

set_option maxHeartbeats 1000000 in
theorem law_layerOf {p : Program} {l : Launch} {e : Env} {s : State} {m : MethodId} {args : Array Value} {below : List Frame} {meth : Method} {c : Code} {Q : State → Prop} {H : Heap} {locs : List Loc} {ls : Array Slot} {g : GG} {b L : Nat} {xs : Nat → Int32} {Inv I2 : St → Prop} (hcf : CallFix p m c cL_law 8 s args lw_all "WakegroundLaw") (hE : amb g (fun q => s.heap.size ≤ q) s s.heap) (hX : va_X b L xs s s.heap) (hbl : b < s.heap.size) (hop : Op_layerOf l g Inv I2) (t : Nat) (ht : 7 * t + 7 ≤ L) (hL : L ≤ 448) (z : St) (hI : Inv z) (ad adm : Nat → Nat → Nat) (oa : Nat) (v : Int64) (hM : mW g.1 (fun q => s.heap.size ≤ q) (cwM g ad (Mo g oa v) z) H) (hN : mW g.1 (fun q => s.heap.size ≤ q) (mwM g adm z) H) (hap : apart (cwM g ad (Mo g oa v) z) (mwM g adm z)) (hS : va_S (fun q => s.heap.size ≤ q) s.heap H locs) (hl : lv_has ls 8 [(0, .ref b), (1, .ref (ad 0 0)), (2, .ref (adm 30 0)), (3, .ref oa), (4, .int (nI (7 * t)))])
    (kk : ∀ (z : St) (ad : Nat → Nat → Nat) (v : Int64) (H : Heap) (locs : List Loc) (ls : Array Slot), I2 z → mW g.1 (fun q => s.heap.size ≤ q) (cwM g ad (Mo g oa v) z) H → mW g.1 (fun q => s.heap.size ≤ q) (mwM g adm z) H → apart (cwM g ad (Mo g oa v) z) (mwM g adm z) → va_S (fun q => s.heap.size ≤ q) s.heap H locs → lv_has ls 8 [(0, .ref b), (1, .ref (ad 0 0)), (2, .ref (adm 30 0)), (3, .ref oa), (4, .int (nI (7 * t)))] → W p l e room_1 s m args below meth c H locs (300 + 800 * (t + 1)) (33000 + 3500 * (t + 1)) Q (F0 m 1334 ls [])) : W p l e room_1 s m args below meth c H locs (300 + 800 * t) (33000 + 3500 * t) Q (F0 m 791 ls []) := by
  have hx := hcf.1
  have hb := hcf.2.1
  have hml := hcf.2.2.1
  have hown := hcf.2.2.2.1
  have hts := hcf.2.2.2.2
  have hA0 : ∀ q : Nat, s.heap.size ≤ q → (fun q : Nat => s.heap.size ≤ q) q := fun _ h => h
  have hbA : ¬ (fun q : Nat => s.heap.size ≤ q) b := Nat.not_le.mpr hbl
  refine lv_aload_n hx hb dL_law_791 rfl (lv_at hl 1 rfl) ?_
  refine lv_aload_n hx hb dL_law_792 rfl (lv_at hl 0 rfl) ?_
  refine lv_iload hx hb dL_law_793 (lv_at hl 4 rfl) ?_
  refine lv_iconst (v := 1) hx hb dL_law_795 (by decide) ?_
  refine lv_iadd hx hb dL_law_796 ?_
  refine m_topI (y := nI ((7 * t) + 1)) (nI_add (7 * t) 1) ?_
  refine va_sld hx hb hX hbl hbA hS (m_in (i := nI ((7 * t) + 1)) (j := ((7 * t) + 1)) rfl (by omega) (by omega)).1 dL_law_797 ?_
  refine m_topI (y := xs ((7 * t) + 1)) (by rw [nI_clamp (by omega)]) ?_
  refine lv_aload_n hx hb dL_law_798 rfl (lv_at hl 0 rfl) ?_
  refine lv_iload hx hb dL_law_799 (lv_at hl 4 rfl) ?_
  refine lv_iconst (v := 2) hx hb dL_law_801 (by decide) ?_
  refine lv_iadd hx hb dL_law_802 ?_
  refine m_topI (y := nI ((7 * t) + 2)) (nI_add (7 * t) 2) ?_
  refine va_sld hx hb hX hbl hbA hS (m_in (i := nI ((7 * t) + 2)) (j := ((7 * t) + 2)) rfl (by omega) (by omega)).1 dL_law_803 ?_
  refine m_topI (y := xs ((7 * t) + 2)) (by rw [nI_clamp (by omega)]) ?_
  refine lv_aload_n hx hb dL_law_804 rfl (lv_at hl 0 rfl) ?_
  refine lv_iload hx hb dL_law_805 (lv_at hl 4 rfl) ?_
  refine lv_iconst (v := 3) hx hb dL_law_807 (by decide) ?_
  refine lv_iadd hx hb dL_law_808 ?_
  refine m_topI (y := nI ((7 * t) + 3)) (nI_add (7 * t) 3) ?_
  refine va_sld hx hb hX hbl hbA hS (m_in (i := nI ((7 * t) + 3)) (j := ((7 * t) + 3)) rfl (by omega) (by omega)).1 dL_law_809 ?_
  refine m_topI (y := xs ((7 * t) + 3)) (by rw [nI_clamp (by omega)]) ?_
  refine lv_aload_n hx hb dL_law_810 rfl (lv_at hl 3 rfl) ?_
  obtain ⟨kc, o9, bv, x1, y1, hcls, hmod, hth, heq, hag, hI2⟩ := hop z hI (xs ((7 * t) + 1)) (xs ((7 * t) + 2)) (xs ((7 * t) + 3))
  obtain ⟨rm9, mc9, ms9, ⟨r1, r2, r3, r4, r5, r6⟩, hmet⟩ := hcls ad oa v
  refine l_cW (As := [.ref (ad 0 0), .int (xs ((7 * t) + 1)), .int (xs ((7 * t) + 2)), .int (xs ((7 * t) + 3)), .ref oa]) (rest := []) hcf hmet (vx_cwSW (hh := [(0, 12, 15, 13), (0, 12, 19, 15)]) (bytes := cX0_layerOf) (maxL := 6) (ret := some .int) 5 hts (lw_SW q864 q865 q34 q866) rfl r1 r2 (by decide +kernel) ⟨by show _ ≤ 22; omega, by show _ ≤ 10924; omega⟩) hE hA0 hM hN hap hS rfl hl.1 rfl (Nat.le_of_ble_eq_true rfl) dL_law_811 ⟨by show _ ≤ 1200384; omega, by show _ ≤ 5488298; omega⟩ (fun r9 ad2 H locs hr9 hM hN hap hS => ?_)
  obtain ⟨hr9, had2⟩ := hr9
  subst hr9
  rw [← had2] at hl
  refine W.widen (k := 300 + 800 * t + 700) (n := 33000 + 3500 * t + 3300) (by omega) (by omega) ?_
  refine lv_istore (lv' := [(5, .int r9), (0, .ref b), (1, .ref (ad2 0 0)), (2, .ref (adm 30 0)), (3, .ref oa), (4, .int (nI (7 * t)))]) hx hb dL_law_814 hl (by decide) rfl (fun ls hl => ?_)
  refine lv_aload_n hx hb dL_law_816 rfl (lv_at hl 3 rfl) ?_
  refine lv_aload_n hx hb dL_law_817 rfl (lv_at hl 1 rfl) ?_
  refine lv_iload hx hb dL_law_818 (lv_at hl 5 rfl) ?_
  refine lv_iconst (v := 1) hx hb dL_law_820 (by decide) ?_
  refine lv_iadd hx hb dL_law_821 ?_
  refine m_topI (y := nI ((7 * t) + 1)) (nI_add (7 * t) 1) ?_
  refine va_sld hx hb hX hbl hbA hS (m_in (i := nI ((7 * t) + 1)) (j := ((7 * t) + 1)) rfl (by omega) (by omega)).1 dL_law_822 ?_
  refine m_topI (y := xs ((7 * t) + 1)) (by rw [nI_clamp (by omega)]) ?_
  refine lv_aload_n hx hb dL_law_823 rfl (lv_at hl 1 rfl) ?_
  refine lv_iload hx hb dL_law_824 (lv_at hl 5 rfl) ?_
  refine lv_iconst (v := 2) hx hb dL_law_826 (by decide) ?_
  refine lv_iadd hx hb dL_law_827 ?_
  refine m_topI (y := nI ((7 * t) + 2)) (nI_add (7 * t) 2) ?_
  refine va_sld hx hb hX hbl hbA hS (m_in (i := nI ((7 * t) + 2)) (j := ((7 * t) + 2)) rfl (by omega) (by omega)).1 dL_law_828 ?_
  refine m_topI (y := xs ((7 * t) + 2)) (by rw [nI_clamp (by omega)]) ?_
  refine lv_aload_n hx hb dL_law_829 rfl (lv_at hl 1 rfl) ?_
  refine lv_iload hx hb dL_law_830 (lv_at hl 5 rfl) ?_
  refine lv_iconst (v := 3) hx hb dL_law_832 (by decide) ?_
  refine lv_iadd hx hb dL_law_833 ?_
  refine m_topI (y := nI ((7 * t) + 3)) (nI_add (7 * t) 3) ?_
  refine va_sld hx hb hX hbl hbA hS (m_in (i := nI ((7 * t) + 3)) (j := ((7 * t) + 3)) rfl (by omega) (by omega)).1 dL_law_834 ?_
  refine m_topI (y := xs ((7 * t) + 3)) (by rw [nI_clamp (by omega)]) ?_
  obtain ⟨rm8, mc8, ms8, ⟨q1, q2, q3, q4, q5, q6⟩, hmet8⟩ := hmod adm
  refine l_cI (post := fun r (_ : Unit) => r = bv) (M' := fun _ => mwM g adm y1) (As := [.int (xs ((7 * t) + 1)), .int (xs ((7 * t) + 2)), .int (xs ((7 * t) + 3))]) (rest := []) hcf hmet8 (cwV 3 hts (lw_V q1161 q1162 q1163 q41 q1164) rfl q1 q2 (by decide +kernel) ⟨by show _ ≤ 22; omega, by show _ ≤ 10924; omega⟩) hE hA0 hN hM hap.sy hS 30 0 (mwM_o g adm z) (ci := 1) rfl rfl hl.1 rfl (Nat.le_of_ble_eq_true rfl) dL_law_835 ⟨by show _ ≤ 1200384; omega, by show _ ≤ 5488298; omega⟩ (fun r8 _ H locs hr8 hN hM hap hS => ?_)
  have hap := hap.sy
  subst hr8
  refine lv_istore (lv' := [(6, .int r8), (5, .int r9), (0, .ref b), (1, .ref (ad2 0 0)), (2, .ref (adm 30 0)), (3, .ref oa), (4, .int (nI (7 * t)))]) hx hb dL_law_838 hl (by decide) rfl (fun ls hl => ?_)
  refine lv_aload_n hx hb dL_law_840 rfl (lv_at hl 4 rfl) ?_
  refine l_cI (post := fun r (_ : Unit) => r = y1.1 0 0) (M' := fun _ => mwM g adm y1) (As := []) (rest := []) hcf (fun A9 => k_X4_thrown l g A9 adm y1) (cwV 0 hts (lw_V q1033 q1034 q1035 q41 q1036) rfl rfl rfl (by decide +kernel) ⟨Nat.le_of_ble_eq_true rfl, Nat.le_of_ble_eq_true rfl⟩) hE hA0 hN hM hap.sy hS 30 0 (mwM_o g adm y1) (ci := 1) rfl rfl hl.1 rfl (Nat.le_of_ble_eq_true rfl) dL_law_841 ⟨by show _ ≤ 1200384; omega, by show _ ≤ 5488298; omega⟩ (fun r7 _ H locs hr7 hN hM hap hS => ?_)
  have hap := hap.sy
  subst hr7
  refine m_topI (y := r9) (hth) ?_
  refine lv_iload hx hb dL_law_844 (lv_at hl 1 rfl) ?_
  refine lv_icmp_eq (tgt := 851) hx hb dL_law_846 (by decide) (fun _ => ?_) (fun c9 => absurd rfl c9)
  refine lv_iload hx hb dL_law_851 (lv_at hl 1 rfl) ?_
  refine lv_if_ne (tgt := 868) hx hb dL_law_853 (by decide) (fun c_6 => ?_) (fun c_6 => ?_)
  · refine lv_goto (tgt := 1334) hx hb dL_law_868 (by decide) ?_
    refine W.widen (k := 300 + 800 * (t + 1)) (n := 33000 + 3500 * (t + 1)) (by omega) (by omega) ?_
    exact kk (mrg x1 y1) ad2 (o9 v) H locs ls hI2 (hM.congr (cw_mrg hag)) (hN.congr mw_mrg) ((hap.cl (cw_mrg hag)).cr mw_mrg) hS (lv_sub hl [2, 3, 4, 5, 6] rfl)
  · refine lv_aload_n hx hb dL_law_856 rfl (lv_at hl 5 rfl) ?_
    refine lv_iconst (v := 0) hx hb dL_law_857 (by decide) ?_
    refine m_lald hx hb hE hM 50 0 cw_out 0 (by decide) (by decide) rfl dL_law_858 ?_
    refine lv_iload hx hb dL_law_859 (lv_at hl 0 rfl) ?_
    refine lv_i2l hx hb dL_law_861 rfl ?_
    refine W.lcmp hx hb dL_law_862 ?_
    refine lv_if_eq (tgt := 868) hx hb dL_law_863 (by decide) (fun _ => ?_) (fun c9 => absurd (by rw [heq c_6 v]; exact lg_same _) c9)
    refine lv_goto (tgt := 1334) hx hb dL_law_868 (by decide) ?_
    refine W.widen (k := 300 + 800 * (t + 1)) (n := 33000 + 3500 * (t + 1)) (by omega) (by omega) ?_
    exact kk (mrg x1 y1) ad2 (o9 v) H locs ls hI2 (hM.congr (cw_mrg hag)) (hN.congr mw_mrg) ((hap.cl (cw_mrg hag)).cr mw_mrg) hS (lv_sub hl [2, 3, 4, 5, 6] rfl)

set_option maxHeartbeats 1000000 in
theorem law_neighbour {p : Program} {l : Launch} {e : Env} {s : State} {m : MethodId} {args : Array Value} {below : List Frame} {meth : Method} {c : Code} {Q : State → Prop} {H : Heap} {locs : List Loc} {ls : Array Slot} {g : GG} {b L : Nat} {xs : Nat → Int32} {Inv I2 : St → Prop} (hcf : CallFix p m c cL_law 8 s args lw_all "WakegroundLaw") (hE : amb g (fun q => s.heap.size ≤ q) s s.heap) (hX : va_X b L xs s s.heap) (hbl : b < s.heap.size) (hop : Op_neighbour l g Inv I2) (t : Nat) (ht : 7 * t + 7 ≤ L) (hL : L ≤ 448) (z : St) (hI : Inv z) (ad adm : Nat → Nat → Nat) (oa : Nat) (v : Int64) (hM : mW g.1 (fun q => s.heap.size ≤ q) (cwM g ad (Mo g oa v) z) H) (hN : mW g.1 (fun q => s.heap.size ≤ q) (mwM g adm z) H) (hap : apart (cwM g ad (Mo g oa v) z) (mwM g adm z)) (hS : va_S (fun q => s.heap.size ≤ q) s.heap H locs) (hl : lv_has ls 8 [(0, .ref b), (1, .ref (ad 0 0)), (2, .ref (adm 30 0)), (3, .ref oa), (4, .int (nI (7 * t)))])
    (kk : ∀ (z : St) (ad : Nat → Nat → Nat) (v : Int64) (H : Heap) (locs : List Loc) (ls : Array Slot), I2 z → mW g.1 (fun q => s.heap.size ≤ q) (cwM g ad (Mo g oa v) z) H → mW g.1 (fun q => s.heap.size ≤ q) (mwM g adm z) H → apart (cwM g ad (Mo g oa v) z) (mwM g adm z) → va_S (fun q => s.heap.size ≤ q) s.heap H locs → lv_has ls 8 [(0, .ref b), (1, .ref (ad 0 0)), (2, .ref (adm 30 0)), (3, .ref oa), (4, .int (nI (7 * t)))] → W p l e room_1 s m args below meth c H locs (300 + 800 * (t + 1)) (33000 + 3500 * (t + 1)) Q (F0 m 1334 ls [])) : W p l e room_1 s m args below meth c H locs (300 + 800 * t) (33000 + 3500 * t) Q (F0 m 871 ls []) := by
  have hx := hcf.1
  have hb := hcf.2.1
  have hml := hcf.2.2.1
  have hown := hcf.2.2.2.1
  have hts := hcf.2.2.2.2
  have hA0 : ∀ q : Nat, s.heap.size ≤ q → (fun q : Nat => s.heap.size ≤ q) q := fun _ h => h
  have hbA : ¬ (fun q : Nat => s.heap.size ≤ q) b := Nat.not_le.mpr hbl
  refine lv_aload_n hx hb dL_law_871 rfl (lv_at hl 1 rfl) ?_
  refine lv_aload_n hx hb dL_law_872 rfl (lv_at hl 0 rfl) ?_
  refine lv_iload hx hb dL_law_873 (lv_at hl 4 rfl) ?_
  refine lv_iconst (v := 1) hx hb dL_law_875 (by decide) ?_
  refine lv_iadd hx hb dL_law_876 ?_
  refine m_topI (y := nI ((7 * t) + 1)) (nI_add (7 * t) 1) ?_
  refine va_sld hx hb hX hbl hbA hS (m_in (i := nI ((7 * t) + 1)) (j := ((7 * t) + 1)) rfl (by omega) (by omega)).1 dL_law_877 ?_
  refine m_topI (y := xs ((7 * t) + 1)) (by rw [nI_clamp (by omega)]) ?_
  refine lv_aload_n hx hb dL_law_878 rfl (lv_at hl 0 rfl) ?_
  refine lv_iload hx hb dL_law_879 (lv_at hl 4 rfl) ?_
  refine lv_iconst (v := 2) hx hb dL_law_881 (by decide) ?_
  refine lv_iadd hx hb dL_law_882 ?_
  refine m_topI (y := nI ((7 * t) + 2)) (nI_add (7 * t) 2) ?_
  refine va_sld hx hb hX hbl hbA hS (m_in (i := nI ((7 * t) + 2)) (j := ((7 * t) + 2)) rfl (by omega) (by omega)).1 dL_law_883 ?_
  refine m_topI (y := xs ((7 * t) + 2)) (by rw [nI_clamp (by omega)]) ?_
  refine lv_aload_n hx hb dL_law_884 rfl (lv_at hl 3 rfl) ?_
  obtain ⟨kc, o9, bv, x1, y1, hcls, hmod, hth, heq, hag, hI2⟩ := hop z hI (xs ((7 * t) + 1)) (xs ((7 * t) + 2))
  obtain ⟨rm9, mc9, ms9, ⟨r1, r2, r3, r4, r5, r6⟩, hmet⟩ := hcls ad oa v
  refine l_cW (As := [.ref (ad 0 0), .int (xs ((7 * t) + 1)), .int (xs ((7 * t) + 2)), .ref oa]) (rest := []) hcf hmet (vx_cwSW (hh := [(0, 10, 13, 13)]) (bytes := cX0_neighbour) (maxL := 5) (ret := some .int) 4 hts (lw_SW q873 q874 q34 q875) rfl r1 r2 (by decide +kernel) ⟨by show _ ≤ 22; omega, by show _ ≤ 10924; omega⟩) hE hA0 hM hN hap hS rfl hl.1 rfl (Nat.le_of_ble_eq_true rfl) dL_law_885 ⟨by show _ ≤ 1200384; omega, by show _ ≤ 5488298; omega⟩ (fun r9 ad2 H locs hr9 hM hN hap hS => ?_)
  obtain ⟨hr9, had2⟩ := hr9
  subst hr9
  rw [← had2] at hl
  refine W.widen (k := 300 + 800 * t + 700) (n := 33000 + 3500 * t + 3300) (by omega) (by omega) ?_
  refine lv_istore (lv' := [(5, .int r9), (0, .ref b), (1, .ref (ad2 0 0)), (2, .ref (adm 30 0)), (3, .ref oa), (4, .int (nI (7 * t)))]) hx hb dL_law_888 hl (by decide) rfl (fun ls hl => ?_)
  refine lv_aload_n hx hb dL_law_890 rfl (lv_at hl 3 rfl) ?_
  refine lv_aload_n hx hb dL_law_891 rfl (lv_at hl 1 rfl) ?_
  refine lv_iload hx hb dL_law_892 (lv_at hl 5 rfl) ?_
  refine lv_iconst (v := 1) hx hb dL_law_894 (by decide) ?_
  refine lv_iadd hx hb dL_law_895 ?_
  refine m_topI (y := nI ((7 * t) + 1)) (nI_add (7 * t) 1) ?_
  refine va_sld hx hb hX hbl hbA hS (m_in (i := nI ((7 * t) + 1)) (j := ((7 * t) + 1)) rfl (by omega) (by omega)).1 dL_law_896 ?_
  refine m_topI (y := xs ((7 * t) + 1)) (by rw [nI_clamp (by omega)]) ?_
  refine lv_aload_n hx hb dL_law_897 rfl (lv_at hl 1 rfl) ?_
  refine lv_iload hx hb dL_law_898 (lv_at hl 5 rfl) ?_
  refine lv_iconst (v := 2) hx hb dL_law_900 (by decide) ?_
  refine lv_iadd hx hb dL_law_901 ?_
  refine m_topI (y := nI ((7 * t) + 2)) (nI_add (7 * t) 2) ?_
  refine va_sld hx hb hX hbl hbA hS (m_in (i := nI ((7 * t) + 2)) (j := ((7 * t) + 2)) rfl (by omega) (by omega)).1 dL_law_902 ?_
  refine m_topI (y := xs ((7 * t) + 2)) (by rw [nI_clamp (by omega)]) ?_
  obtain ⟨rm8, mc8, ms8, ⟨q1, q2, q3, q4, q5, q6⟩, hmet8⟩ := hmod adm
  refine l_cI (post := fun r (_ : Unit) => r = bv) (M' := fun _ => mwM g adm y1) (As := [.int (xs ((7 * t) + 1)), .int (xs ((7 * t) + 2))]) (rest := []) hcf hmet8 (cwV 2 hts (lw_V q1165 q1166 q1167 q41 q1168) rfl q1 q2 (by decide +kernel) ⟨by show _ ≤ 22; omega, by show _ ≤ 10924; omega⟩) hE hA0 hN hM hap.sy hS 30 0 (mwM_o g adm z) (ci := 1) rfl rfl hl.1 rfl (Nat.le_of_ble_eq_true rfl) dL_law_903 ⟨by show _ ≤ 1200384; omega, by show _ ≤ 5488298; omega⟩ (fun r8 _ H locs hr8 hN hM hap hS => ?_)
  have hap := hap.sy
  subst hr8
  refine lv_istore (lv' := [(6, .int r8), (5, .int r9), (0, .ref b), (1, .ref (ad2 0 0)), (2, .ref (adm 30 0)), (3, .ref oa), (4, .int (nI (7 * t)))]) hx hb dL_law_906 hl (by decide) rfl (fun ls hl => ?_)
  refine lv_aload_n hx hb dL_law_908 rfl (lv_at hl 4 rfl) ?_
  refine l_cI (post := fun r (_ : Unit) => r = y1.1 0 0) (M' := fun _ => mwM g adm y1) (As := []) (rest := []) hcf (fun A9 => k_X4_thrown l g A9 adm y1) (cwV 0 hts (lw_V q1033 q1034 q1035 q41 q1036) rfl rfl rfl (by decide +kernel) ⟨Nat.le_of_ble_eq_true rfl, Nat.le_of_ble_eq_true rfl⟩) hE hA0 hN hM hap.sy hS 30 0 (mwM_o g adm y1) (ci := 1) rfl rfl hl.1 rfl (Nat.le_of_ble_eq_true rfl) dL_law_909 ⟨by show _ ≤ 1200384; omega, by show _ ≤ 5488298; omega⟩ (fun r7 _ H locs hr7 hN hM hap hS => ?_)
  have hap := hap.sy
  subst hr7
  refine m_topI (y := r9) (hth) ?_
  refine lv_iload hx hb dL_law_912 (lv_at hl 1 rfl) ?_
  refine lv_icmp_eq (tgt := 919) hx hb dL_law_914 (by decide) (fun _ => ?_) (fun c9 => absurd rfl c9)
  refine lv_iload hx hb dL_law_919 (lv_at hl 1 rfl) ?_
  refine lv_if_ne (tgt := 936) hx hb dL_law_921 (by decide) (fun c_6 => ?_) (fun c_6 => ?_)
  · refine lv_goto (tgt := 1334) hx hb dL_law_936 (by decide) ?_
    refine W.widen (k := 300 + 800 * (t + 1)) (n := 33000 + 3500 * (t + 1)) (by omega) (by omega) ?_
    exact kk (mrg x1 y1) ad2 (o9 v) H locs ls hI2 (hM.congr (cw_mrg hag)) (hN.congr mw_mrg) ((hap.cl (cw_mrg hag)).cr mw_mrg) hS (lv_sub hl [2, 3, 4, 5, 6] rfl)
  · refine lv_aload_n hx hb dL_law_924 rfl (lv_at hl 5 rfl) ?_
    refine lv_iconst (v := 0) hx hb dL_law_925 (by decide) ?_
    refine m_lald hx hb hE hM 50 0 cw_out 0 (by decide) (by decide) rfl dL_law_926 ?_
    refine lv_iload hx hb dL_law_927 (lv_at hl 0 rfl) ?_
    refine lv_i2l hx hb dL_law_929 rfl ?_
    refine W.lcmp hx hb dL_law_930 ?_
    refine lv_if_eq (tgt := 936) hx hb dL_law_931 (by decide) (fun _ => ?_) (fun c9 => absurd (by rw [heq c_6 v]; exact lg_same _) c9)
    refine lv_goto (tgt := 1334) hx hb dL_law_936 (by decide) ?_
    refine W.widen (k := 300 + 800 * (t + 1)) (n := 33000 + 3500 * (t + 1)) (by omega) (by omega) ?_
    exact kk (mrg x1 y1) ad2 (o9 v) H locs ls hI2 (hM.congr (cw_mrg hag)) (hN.congr mw_mrg) ((hap.cl (cw_mrg hag)).cr mw_mrg) hS (lv_sub hl [2, 3, 4, 5, 6] rfl)

set_option maxHeartbeats 1000000 in
theorem law_lakes {p : Program} {l : Launch} {e : Env} {s : State} {m : MethodId} {args : Array Value} {below : List Frame} {meth : Method} {c : Code} {Q : State → Prop} {H : Heap} {locs : List Loc} {ls : Array Slot} {g : GG} {b L : Nat} {xs : Nat → Int32} {Inv I2 : St → Prop} (hcf : CallFix p m c cL_law 8 s args lw_all "WakegroundLaw") (hE : amb g (fun q => s.heap.size ≤ q) s s.heap) (hX : va_X b L xs s s.heap) (hbl : b < s.heap.size) (hop : Op_lakes l g Inv I2) (t : Nat) (ht : 7 * t + 7 ≤ L) (hL : L ≤ 448) (z : St) (hI : Inv z) (ad adm : Nat → Nat → Nat) (oa : Nat) (v : Int64) (hM : mW g.1 (fun q => s.heap.size ≤ q) (cwM g ad (Mo g oa v) z) H) (hN : mW g.1 (fun q => s.heap.size ≤ q) (mwM g adm z) H) (hap : apart (cwM g ad (Mo g oa v) z) (mwM g adm z)) (hS : va_S (fun q => s.heap.size ≤ q) s.heap H locs) (hl : lv_has ls 8 [(0, .ref b), (1, .ref (ad 0 0)), (2, .ref (adm 30 0)), (3, .ref oa), (4, .int (nI (7 * t)))])
    (kk : ∀ (z : St) (ad : Nat → Nat → Nat) (v : Int64) (H : Heap) (locs : List Loc) (ls : Array Slot), I2 z → mW g.1 (fun q => s.heap.size ≤ q) (cwM g ad (Mo g oa v) z) H → mW g.1 (fun q => s.heap.size ≤ q) (mwM g adm z) H → apart (cwM g ad (Mo g oa v) z) (mwM g adm z) → va_S (fun q => s.heap.size ≤ q) s.heap H locs → lv_has ls 8 [(0, .ref b), (1, .ref (ad 0 0)), (2, .ref (adm 30 0)), (3, .ref oa), (4, .int (nI (7 * t)))] → W p l e room_1 s m args below meth c H locs (300 + 800 * (t + 1)) (33000 + 3500 * (t + 1)) Q (F0 m 1334 ls [])) : W p l e room_1 s m args below meth c H locs (300 + 800 * t) (33000 + 3500 * t) Q (F0 m 939 ls []) := by
  have hx := hcf.1
  have hb := hcf.2.1
  have hml := hcf.2.2.1
  have hown := hcf.2.2.2.1
  have hts := hcf.2.2.2.2
  have hA0 : ∀ q : Nat, s.heap.size ≤ q → (fun q : Nat => s.heap.size ≤ q) q := fun _ h => h
  have hbA : ¬ (fun q : Nat => s.heap.size ≤ q) b := Nat.not_le.mpr hbl
  refine lv_aload_n hx hb dL_law_939 rfl (lv_at hl 1 rfl) ?_
  obtain ⟨bv, x1, y1, hcls, hmod, hag, hI2⟩ := hop z hI
  obtain ⟨rm9, mc9, ms9, ⟨r1, r2, r3, r4, r5, r6⟩, hmet⟩ := hcls ad oa v
  refine l_cI (post := fun r (_ : Unit) => r = bv) (M' := fun _ => cwM g ad (Mo g oa v) x1) (As := []) (rest := []) hcf hmet (cwV 0 hts (lw_V q215 q216 q217 q35 q218) rfl r1 r2 (by decide +kernel) ⟨by show _ ≤ 22; omega, by show _ ≤ 10924; omega⟩) hE hA0 hM hN hap hS 0 0 cw_0 (ci := 0) rfl rfl hl.1 rfl (Nat.le_of_ble_eq_true rfl) dL_law_940 ⟨by show _ ≤ 1200384; omega, by show _ ≤ 5488298; omega⟩ (fun r9 _ H locs hr9 hM hN hap hS => ?_)
  subst hr9
  refine W.widen (k := 300 + 800 * t + 700) (n := 33000 + 3500 * t + 3300) (by omega) (by omega) ?_
  refine lv_aload_n hx hb dL_law_943 rfl (lv_at hl 2 rfl) ?_
  obtain ⟨rm8, mc8, ms8, ⟨q1, q2, q3, q4, q5, q6⟩, hmet8⟩ := hmod adm
  refine l_cI (post := fun r (_ : Unit) => r = r9) (M' := fun _ => mwM g adm y1) (As := []) (rest := [.int r9]) hcf hmet8 (cwV 0 hts (lw_V q1169 q1170 q1171 q41 q1172) rfl q1 q2 (by decide +kernel) ⟨by show _ ≤ 22; omega, by show _ ≤ 10924; omega⟩) hE hA0 hN hM hap.sy hS 30 0 (mwM_o g adm z) (ci := 1) rfl rfl hl.1 rfl (Nat.le_of_ble_eq_true rfl) dL_law_944 ⟨by show _ ≤ 1200384; omega, by show _ ≤ 5488298; omega⟩ (fun r8 _ H locs hr8 hN hM hap hS => ?_)
  have hap := hap.sy
  subst hr8
  refine lv_icmp_eq (tgt := 1334) hx hb dL_law_947 (by decide) (fun _ => ?_) (fun c9 => absurd rfl c9)
  refine W.widen (k := 300 + 800 * (t + 1)) (n := 33000 + 3500 * (t + 1)) (by omega) (by omega) ?_
  exact kk (mrg x1 y1) ad (v) H locs ls hI2 (hM.congr (cw_mrg hag)) (hN.congr mw_mrg) ((hap.cl (cw_mrg hag)).cr mw_mrg) hS (lv_sub hl [0, 1, 2, 3, 4] rfl)

set_option maxHeartbeats 1000000 in
theorem law_houseOf {p : Program} {l : Launch} {e : Env} {s : State} {m : MethodId} {args : Array Value} {below : List Frame} {meth : Method} {c : Code} {Q : State → Prop} {H : Heap} {locs : List Loc} {ls : Array Slot} {g : GG} {b L : Nat} {xs : Nat → Int32} {Inv I2 : St → Prop} (hcf : CallFix p m c cL_law 8 s args lw_all "WakegroundLaw") (hE : amb g (fun q => s.heap.size ≤ q) s s.heap) (hX : va_X b L xs s s.heap) (hbl : b < s.heap.size) (hop : Op_houseOf l g Inv I2) (t : Nat) (ht : 7 * t + 7 ≤ L) (hL : L ≤ 448) (z : St) (hI : Inv z) (ad adm : Nat → Nat → Nat) (oa : Nat) (v : Int64) (hM : mW g.1 (fun q => s.heap.size ≤ q) (cwM g ad (Mo g oa v) z) H) (hN : mW g.1 (fun q => s.heap.size ≤ q) (mwM g adm z) H) (hap : apart (cwM g ad (Mo g oa v) z) (mwM g adm z)) (hS : va_S (fun q => s.heap.size ≤ q) s.heap H locs) (hl : lv_has ls 8 [(0, .ref b), (1, .ref (ad 0 0)), (2, .ref (adm 30 0)), (3, .ref oa), (4, .int (nI (7 * t)))])
    (kk : ∀ (z : St) (ad : Nat → Nat → Nat) (v : Int64) (H : Heap) (locs : List Loc) (ls : Array Slot), I2 z → mW g.1 (fun q => s.heap.size ≤ q) (cwM g ad (Mo g oa v) z) H → mW g.1 (fun q => s.heap.size ≤ q) (mwM g adm z) H → apart (cwM g ad (Mo g oa v) z) (mwM g adm z) → va_S (fun q => s.heap.size ≤ q) s.heap H locs → lv_has ls 8 [(0, .ref b), (1, .ref (ad 0 0)), (2, .ref (adm 30 0)), (3, .ref oa), (4, .int (nI (7 * t)))] → W p l e room_1 s m args below meth c H locs (300 + 800 * (t + 1)) (33000 + 3500 * (t + 1)) Q (F0 m 1334 ls [])) : W p l e room_1 s m args below meth c H locs (300 + 800 * t) (33000 + 3500 * t) Q (F0 m 952 ls []) := by
  have hx := hcf.1
  have hb := hcf.2.1
  have hml := hcf.2.2.1
  have hown := hcf.2.2.2.1
  have hts := hcf.2.2.2.2
  have hA0 : ∀ q : Nat, s.heap.size ≤ q → (fun q : Nat => s.heap.size ≤ q) q := fun _ h => h
  have hbA : ¬ (fun q : Nat => s.heap.size ≤ q) b := Nat.not_le.mpr hbl
  refine lv_aload_n hx hb dL_law_952 rfl (lv_at hl 1 rfl) ?_
  refine lv_aload_n hx hb dL_law_953 rfl (lv_at hl 0 rfl) ?_
  refine lv_iload hx hb dL_law_954 (lv_at hl 4 rfl) ?_
  refine lv_iconst (v := 1) hx hb dL_law_956 (by decide) ?_
  refine lv_iadd hx hb dL_law_957 ?_
  refine m_topI (y := nI ((7 * t) + 1)) (nI_add (7 * t) 1) ?_
  refine va_sld hx hb hX hbl hbA hS (m_in (i := nI ((7 * t) + 1)) (j := ((7 * t) + 1)) rfl (by omega) (by omega)).1 dL_law_958 ?_
  refine m_topI (y := xs ((7 * t) + 1)) (by rw [nI_clamp (by omega)]) ?_
  refine lv_aload_n hx hb dL_law_959 rfl (lv_at hl 0 rfl) ?_
  refine lv_iload hx hb dL_law_960 (lv_at hl 4 rfl) ?_
  refine lv_iconst (v := 2) hx hb dL_law_962 (by decide) ?_
  refine lv_iadd hx hb dL_law_963 ?_
  refine m_topI (y := nI ((7 * t) + 2)) (nI_add (7 * t) 2) ?_
  refine va_sld hx hb hX hbl hbA hS (m_in (i := nI ((7 * t) + 2)) (j := ((7 * t) + 2)) rfl (by omega) (by omega)).1 dL_law_964 ?_
  refine m_topI (y := xs ((7 * t) + 2)) (by rw [nI_clamp (by omega)]) ?_
  refine lv_aload_n hx hb dL_law_965 rfl (lv_at hl 3 rfl) ?_
  obtain ⟨kc, o9, bv, x1, y1, hcls, hmod, hth, heq, hag, hI2⟩ := hop z hI (xs ((7 * t) + 1)) (xs ((7 * t) + 2))
  obtain ⟨rm9, mc9, ms9, ⟨r1, r2, r3, r4, r5, r6⟩, hmet⟩ := hcls ad oa v
  refine l_cW (As := [.ref (ad 0 0), .int (xs ((7 * t) + 1)), .int (xs ((7 * t) + 2)), .ref oa]) (rest := []) hcf hmet (vx_cwSW (hh := [(0, 10, 13, 13), (0, 10, 17, 15)]) (bytes := cX0_houseOf) (maxL := 5) (ret := some .int) 4 hts (lw_SW q880 q881 q34 q882) rfl r1 r2 (by decide +kernel) ⟨by show _ ≤ 22; omega, by show _ ≤ 10924; omega⟩) hE hA0 hM hN hap hS rfl hl.1 rfl (Nat.le_of_ble_eq_true rfl) dL_law_966 ⟨by show _ ≤ 1200384; omega, by show _ ≤ 5488298; omega⟩ (fun r9 ad2 H locs hr9 hM hN hap hS => ?_)
  obtain ⟨hr9, had2⟩ := hr9
  subst hr9
  rw [← had2] at hl
  refine W.widen (k := 300 + 800 * t + 700) (n := 33000 + 3500 * t + 3300) (by omega) (by omega) ?_
  refine lv_istore (lv' := [(5, .int r9), (0, .ref b), (1, .ref (ad2 0 0)), (2, .ref (adm 30 0)), (3, .ref oa), (4, .int (nI (7 * t)))]) hx hb dL_law_969 hl (by decide) rfl (fun ls hl => ?_)
  refine lv_aload_n hx hb dL_law_971 rfl (lv_at hl 3 rfl) ?_
  refine lv_aload_n hx hb dL_law_972 rfl (lv_at hl 1 rfl) ?_
  refine lv_iload hx hb dL_law_973 (lv_at hl 5 rfl) ?_
  refine lv_iconst (v := 1) hx hb dL_law_975 (by decide) ?_
  refine lv_iadd hx hb dL_law_976 ?_
  refine m_topI (y := nI ((7 * t) + 1)) (nI_add (7 * t) 1) ?_
  refine va_sld hx hb hX hbl hbA hS (m_in (i := nI ((7 * t) + 1)) (j := ((7 * t) + 1)) rfl (by omega) (by omega)).1 dL_law_977 ?_
  refine m_topI (y := xs ((7 * t) + 1)) (by rw [nI_clamp (by omega)]) ?_
  refine lv_aload_n hx hb dL_law_978 rfl (lv_at hl 1 rfl) ?_
  refine lv_iload hx hb dL_law_979 (lv_at hl 5 rfl) ?_
  refine lv_iconst (v := 2) hx hb dL_law_981 (by decide) ?_
  refine lv_iadd hx hb dL_law_982 ?_
  refine m_topI (y := nI ((7 * t) + 2)) (nI_add (7 * t) 2) ?_
  refine va_sld hx hb hX hbl hbA hS (m_in (i := nI ((7 * t) + 2)) (j := ((7 * t) + 2)) rfl (by omega) (by omega)).1 dL_law_983 ?_
  refine m_topI (y := xs ((7 * t) + 2)) (by rw [nI_clamp (by omega)]) ?_
  obtain ⟨rm8, mc8, ms8, ⟨q1, q2, q3, q4, q5, q6⟩, hmet8⟩ := hmod adm
  refine l_cI (post := fun r (_ : Unit) => r = bv) (M' := fun _ => mwM g adm y1) (As := [.int (xs ((7 * t) + 1)), .int (xs ((7 * t) + 2))]) (rest := []) hcf hmet8 (cwV 2 hts (lw_V q1173 q1174 q1175 q41 q1176) rfl q1 q2 (by decide +kernel) ⟨by show _ ≤ 22; omega, by show _ ≤ 10924; omega⟩) hE hA0 hN hM hap.sy hS 30 0 (mwM_o g adm z) (ci := 1) rfl rfl hl.1 rfl (Nat.le_of_ble_eq_true rfl) dL_law_984 ⟨by show _ ≤ 1200384; omega, by show _ ≤ 5488298; omega⟩ (fun r8 _ H locs hr8 hN hM hap hS => ?_)
  have hap := hap.sy
  subst hr8
  refine lv_istore (lv' := [(6, .int r8), (5, .int r9), (0, .ref b), (1, .ref (ad2 0 0)), (2, .ref (adm 30 0)), (3, .ref oa), (4, .int (nI (7 * t)))]) hx hb dL_law_987 hl (by decide) rfl (fun ls hl => ?_)
  refine lv_aload_n hx hb dL_law_989 rfl (lv_at hl 4 rfl) ?_
  refine l_cI (post := fun r (_ : Unit) => r = y1.1 0 0) (M' := fun _ => mwM g adm y1) (As := []) (rest := []) hcf (fun A9 => k_X4_thrown l g A9 adm y1) (cwV 0 hts (lw_V q1033 q1034 q1035 q41 q1036) rfl rfl rfl (by decide +kernel) ⟨Nat.le_of_ble_eq_true rfl, Nat.le_of_ble_eq_true rfl⟩) hE hA0 hN hM hap.sy hS 30 0 (mwM_o g adm y1) (ci := 1) rfl rfl hl.1 rfl (Nat.le_of_ble_eq_true rfl) dL_law_990 ⟨by show _ ≤ 1200384; omega, by show _ ≤ 5488298; omega⟩ (fun r7 _ H locs hr7 hN hM hap hS => ?_)
  have hap := hap.sy
  subst hr7
  refine m_topI (y := r9) (hth) ?_
  refine lv_iload hx hb dL_law_993 (lv_at hl 1 rfl) ?_
  refine lv_icmp_eq (tgt := 1000) hx hb dL_law_995 (by decide) (fun _ => ?_) (fun c9 => absurd rfl c9)
  refine lv_iload hx hb dL_law_1000 (lv_at hl 1 rfl) ?_
  refine lv_if_ne (tgt := 1017) hx hb dL_law_1002 (by decide) (fun c_6 => ?_) (fun c_6 => ?_)
  · refine lv_goto (tgt := 1334) hx hb dL_law_1017 (by decide) ?_
    refine W.widen (k := 300 + 800 * (t + 1)) (n := 33000 + 3500 * (t + 1)) (by omega) (by omega) ?_
    exact kk (mrg x1 y1) ad2 (o9 v) H locs ls hI2 (hM.congr (cw_mrg hag)) (hN.congr mw_mrg) ((hap.cl (cw_mrg hag)).cr mw_mrg) hS (lv_sub hl [2, 3, 4, 5, 6] rfl)
  · refine lv_aload_n hx hb dL_law_1005 rfl (lv_at hl 5 rfl) ?_
    refine lv_iconst (v := 0) hx hb dL_law_1006 (by decide) ?_
    refine m_lald hx hb hE hM 50 0 cw_out 0 (by decide) (by decide) rfl dL_law_1007 ?_
    refine lv_iload hx hb dL_law_1008 (lv_at hl 0 rfl) ?_
    refine lv_i2l hx hb dL_law_1010 rfl ?_
    refine W.lcmp hx hb dL_law_1011 ?_
    refine lv_if_eq (tgt := 1017) hx hb dL_law_1012 (by decide) (fun _ => ?_) (fun c9 => absurd (by rw [heq c_6 v]; exact lg_same _) c9)
    refine lv_goto (tgt := 1334) hx hb dL_law_1017 (by decide) ?_
    refine W.widen (k := 300 + 800 * (t + 1)) (n := 33000 + 3500 * (t + 1)) (by omega) (by omega) ?_
    exact kk (mrg x1 y1) ad2 (o9 v) H locs ls hI2 (hM.congr (cw_mrg hag)) (hN.congr mw_mrg) ((hap.cl (cw_mrg hag)).cr mw_mrg) hS (lv_sub hl [2, 3, 4, 5, 6] rfl)

set_option maxHeartbeats 1000000 in
theorem law_reading {p : Program} {l : Launch} {e : Env} {s : State} {m : MethodId} {args : Array Value} {below : List Frame} {meth : Method} {c : Code} {Q : State → Prop} {H : Heap} {locs : List Loc} {ls : Array Slot} {g : GG} {b L : Nat} {xs : Nat → Int32} {Inv I2 : St → Prop} (hcf : CallFix p m c cL_law 8 s args lw_all "WakegroundLaw") (hE : amb g (fun q => s.heap.size ≤ q) s s.heap) (hX : va_X b L xs s s.heap) (hbl : b < s.heap.size) (hop : Op_reading l g Inv I2) (t : Nat) (ht : 7 * t + 7 ≤ L) (hL : L ≤ 448) (z : St) (hI : Inv z) (ad adm : Nat → Nat → Nat) (oa : Nat) (v : Int64) (hM : mW g.1 (fun q => s.heap.size ≤ q) (cwM g ad (Mo g oa v) z) H) (hN : mW g.1 (fun q => s.heap.size ≤ q) (mwM g adm z) H) (hap : apart (cwM g ad (Mo g oa v) z) (mwM g adm z)) (hS : va_S (fun q => s.heap.size ≤ q) s.heap H locs) (hl : lv_has ls 8 [(0, .ref b), (1, .ref (ad 0 0)), (2, .ref (adm 30 0)), (3, .ref oa), (4, .int (nI (7 * t)))])
    (kk : ∀ (z : St) (ad : Nat → Nat → Nat) (v : Int64) (H : Heap) (locs : List Loc) (ls : Array Slot), I2 z → mW g.1 (fun q => s.heap.size ≤ q) (cwM g ad (Mo g oa v) z) H → mW g.1 (fun q => s.heap.size ≤ q) (mwM g adm z) H → apart (cwM g ad (Mo g oa v) z) (mwM g adm z) → va_S (fun q => s.heap.size ≤ q) s.heap H locs → lv_has ls 8 [(0, .ref b), (1, .ref (ad 0 0)), (2, .ref (adm 30 0)), (3, .ref oa), (4, .int (nI (7 * t)))] → W p l e room_1 s m args below meth c H locs (300 + 800 * (t + 1)) (33000 + 3500 * (t + 1)) Q (F0 m 1334 ls [])) : W p l e room_1 s m args below meth c H locs (300 + 800 * t) (33000 + 3500 * t) Q (F0 m 1020 ls []) := by
  have hx := hcf.1
  have hb := hcf.2.1
  have hml := hcf.2.2.1
  have hown := hcf.2.2.2.1
  have hts := hcf.2.2.2.2
  have hA0 : ∀ q : Nat, s.heap.size ≤ q → (fun q : Nat => s.heap.size ≤ q) q := fun _ h => h
  have hbA : ¬ (fun q : Nat => s.heap.size ≤ q) b := Nat.not_le.mpr hbl
  refine lv_aload_n hx hb dL_law_1020 rfl (lv_at hl 1 rfl) ?_
  refine lv_aload_n hx hb dL_law_1021 rfl (lv_at hl 0 rfl) ?_
  refine lv_iload hx hb dL_law_1022 (lv_at hl 4 rfl) ?_
  refine lv_iconst (v := 1) hx hb dL_law_1024 (by decide) ?_
  refine lv_iadd hx hb dL_law_1025 ?_
  refine m_topI (y := nI ((7 * t) + 1)) (nI_add (7 * t) 1) ?_
  refine va_sld hx hb hX hbl hbA hS (m_in (i := nI ((7 * t) + 1)) (j := ((7 * t) + 1)) rfl (by omega) (by omega)).1 dL_law_1026 ?_
  refine m_topI (y := xs ((7 * t) + 1)) (by rw [nI_clamp (by omega)]) ?_
  refine lv_aload_n hx hb dL_law_1027 rfl (lv_at hl 0 rfl) ?_
  refine lv_iload hx hb dL_law_1028 (lv_at hl 4 rfl) ?_
  refine lv_iconst (v := 2) hx hb dL_law_1030 (by decide) ?_
  refine lv_iadd hx hb dL_law_1031 ?_
  refine m_topI (y := nI ((7 * t) + 2)) (nI_add (7 * t) 2) ?_
  refine va_sld hx hb hX hbl hbA hS (m_in (i := nI ((7 * t) + 2)) (j := ((7 * t) + 2)) rfl (by omega) (by omega)).1 dL_law_1032 ?_
  refine m_topI (y := xs ((7 * t) + 2)) (by rw [nI_clamp (by omega)]) ?_
  refine lv_aload_n hx hb dL_law_1033 rfl (lv_at hl 0 rfl) ?_
  refine lv_iload hx hb dL_law_1034 (lv_at hl 4 rfl) ?_
  refine lv_iconst (v := 3) hx hb dL_law_1036 (by decide) ?_
  refine lv_iadd hx hb dL_law_1037 ?_
  refine m_topI (y := nI ((7 * t) + 3)) (nI_add (7 * t) 3) ?_
  refine va_sld hx hb hX hbl hbA hS (m_in (i := nI ((7 * t) + 3)) (j := ((7 * t) + 3)) rfl (by omega) (by omega)).1 dL_law_1038 ?_
  refine m_topI (y := xs ((7 * t) + 3)) (by rw [nI_clamp (by omega)]) ?_
  refine lv_aload_n hx hb dL_law_1039 rfl (lv_at hl 3 rfl) ?_
  obtain ⟨kc, o9, bv, x1, y1, hcls, hmod, hth, heq, hag, hI2⟩ := hop z hI (xs ((7 * t) + 1)) (xs ((7 * t) + 2)) (xs ((7 * t) + 3))
  obtain ⟨rm9, mc9, ms9, ⟨r1, r2, r3, r4, r5, r6⟩, hmet⟩ := hcls ad oa v
  refine l_cW (As := [.ref (ad 0 0), .int (xs ((7 * t) + 1)), .int (xs ((7 * t) + 2)), .int (xs ((7 * t) + 3)), .ref oa]) (rest := []) hcf hmet (vx_cwSW (hh := [(0, 12, 15, 13)]) (bytes := cX0_reading) (maxL := 6) (ret := some .int) 5 hts (lw_SW q888 q889 q34 q890) rfl r1 r2 (by decide +kernel) ⟨by show _ ≤ 22; omega, by show _ ≤ 10924; omega⟩) hE hA0 hM hN hap hS rfl hl.1 rfl (Nat.le_of_ble_eq_true rfl) dL_law_1040 ⟨by show _ ≤ 1200384; omega, by show _ ≤ 5488298; omega⟩ (fun r9 ad2 H locs hr9 hM hN hap hS => ?_)
  obtain ⟨hr9, had2⟩ := hr9
  subst hr9
  rw [← had2] at hl
  refine W.widen (k := 300 + 800 * t + 700) (n := 33000 + 3500 * t + 3300) (by omega) (by omega) ?_
  refine lv_istore (lv' := [(5, .int r9), (0, .ref b), (1, .ref (ad2 0 0)), (2, .ref (adm 30 0)), (3, .ref oa), (4, .int (nI (7 * t)))]) hx hb dL_law_1043 hl (by decide) rfl (fun ls hl => ?_)
  refine lv_aload_n hx hb dL_law_1045 rfl (lv_at hl 3 rfl) ?_
  refine lv_aload_n hx hb dL_law_1046 rfl (lv_at hl 1 rfl) ?_
  refine lv_iload hx hb dL_law_1047 (lv_at hl 5 rfl) ?_
  refine lv_iconst (v := 1) hx hb dL_law_1049 (by decide) ?_
  refine lv_iadd hx hb dL_law_1050 ?_
  refine m_topI (y := nI ((7 * t) + 1)) (nI_add (7 * t) 1) ?_
  refine va_sld hx hb hX hbl hbA hS (m_in (i := nI ((7 * t) + 1)) (j := ((7 * t) + 1)) rfl (by omega) (by omega)).1 dL_law_1051 ?_
  refine m_topI (y := xs ((7 * t) + 1)) (by rw [nI_clamp (by omega)]) ?_
  refine lv_aload_n hx hb dL_law_1052 rfl (lv_at hl 1 rfl) ?_
  refine lv_iload hx hb dL_law_1053 (lv_at hl 5 rfl) ?_
  refine lv_iconst (v := 2) hx hb dL_law_1055 (by decide) ?_
  refine lv_iadd hx hb dL_law_1056 ?_
  refine m_topI (y := nI ((7 * t) + 2)) (nI_add (7 * t) 2) ?_
  refine va_sld hx hb hX hbl hbA hS (m_in (i := nI ((7 * t) + 2)) (j := ((7 * t) + 2)) rfl (by omega) (by omega)).1 dL_law_1057 ?_
  refine m_topI (y := xs ((7 * t) + 2)) (by rw [nI_clamp (by omega)]) ?_
  refine lv_aload_n hx hb dL_law_1058 rfl (lv_at hl 1 rfl) ?_
  refine lv_iload hx hb dL_law_1059 (lv_at hl 5 rfl) ?_
  refine lv_iconst (v := 3) hx hb dL_law_1061 (by decide) ?_
  refine lv_iadd hx hb dL_law_1062 ?_
  refine m_topI (y := nI ((7 * t) + 3)) (nI_add (7 * t) 3) ?_
  refine va_sld hx hb hX hbl hbA hS (m_in (i := nI ((7 * t) + 3)) (j := ((7 * t) + 3)) rfl (by omega) (by omega)).1 dL_law_1063 ?_
  refine m_topI (y := xs ((7 * t) + 3)) (by rw [nI_clamp (by omega)]) ?_
  obtain ⟨rm8, mc8, ms8, ⟨q1, q2, q3, q4, q5, q6⟩, hmet8⟩ := hmod adm
  refine l_cI (post := fun r (_ : Unit) => r = bv) (M' := fun _ => mwM g adm y1) (As := [.int (xs ((7 * t) + 1)), .int (xs ((7 * t) + 2)), .int (xs ((7 * t) + 3))]) (rest := []) hcf hmet8 (cwV 3 hts (lw_V q1177 q1178 q1179 q41 q1180) rfl q1 q2 (by decide +kernel) ⟨by show _ ≤ 22; omega, by show _ ≤ 10924; omega⟩) hE hA0 hN hM hap.sy hS 30 0 (mwM_o g adm z) (ci := 1) rfl rfl hl.1 rfl (Nat.le_of_ble_eq_true rfl) dL_law_1064 ⟨by show _ ≤ 1200384; omega, by show _ ≤ 5488298; omega⟩ (fun r8 _ H locs hr8 hN hM hap hS => ?_)
  have hap := hap.sy
  subst hr8
  refine lv_istore (lv' := [(6, .int r8), (5, .int r9), (0, .ref b), (1, .ref (ad2 0 0)), (2, .ref (adm 30 0)), (3, .ref oa), (4, .int (nI (7 * t)))]) hx hb dL_law_1067 hl (by decide) rfl (fun ls hl => ?_)
  refine lv_aload_n hx hb dL_law_1069 rfl (lv_at hl 4 rfl) ?_
  refine l_cI (post := fun r (_ : Unit) => r = y1.1 0 0) (M' := fun _ => mwM g adm y1) (As := []) (rest := []) hcf (fun A9 => k_X4_thrown l g A9 adm y1) (cwV 0 hts (lw_V q1033 q1034 q1035 q41 q1036) rfl rfl rfl (by decide +kernel) ⟨Nat.le_of_ble_eq_true rfl, Nat.le_of_ble_eq_true rfl⟩) hE hA0 hN hM hap.sy hS 30 0 (mwM_o g adm y1) (ci := 1) rfl rfl hl.1 rfl (Nat.le_of_ble_eq_true rfl) dL_law_1070 ⟨by show _ ≤ 1200384; omega, by show _ ≤ 5488298; omega⟩ (fun r7 _ H locs hr7 hN hM hap hS => ?_)
  have hap := hap.sy
  subst hr7
  refine m_topI (y := r9) (hth) ?_
  refine lv_iload hx hb dL_law_1073 (lv_at hl 1 rfl) ?_
  refine lv_icmp_eq (tgt := 1080) hx hb dL_law_1075 (by decide) (fun _ => ?_) (fun c9 => absurd rfl c9)
  refine lv_iload hx hb dL_law_1080 (lv_at hl 1 rfl) ?_
  refine lv_if_ne (tgt := 1097) hx hb dL_law_1082 (by decide) (fun c_6 => ?_) (fun c_6 => ?_)
  · refine lv_goto (tgt := 1334) hx hb dL_law_1097 (by decide) ?_
    refine W.widen (k := 300 + 800 * (t + 1)) (n := 33000 + 3500 * (t + 1)) (by omega) (by omega) ?_
    exact kk (mrg x1 y1) ad2 (o9 v) H locs ls hI2 (hM.congr (cw_mrg hag)) (hN.congr mw_mrg) ((hap.cl (cw_mrg hag)).cr mw_mrg) hS (lv_sub hl [2, 3, 4, 5, 6] rfl)
  · refine lv_aload_n hx hb dL_law_1085 rfl (lv_at hl 5 rfl) ?_
    refine lv_iconst (v := 0) hx hb dL_law_1086 (by decide) ?_
    refine m_lald hx hb hE hM 50 0 cw_out 0 (by decide) (by decide) rfl dL_law_1087 ?_
    refine lv_iload hx hb dL_law_1088 (lv_at hl 0 rfl) ?_
    refine lv_i2l hx hb dL_law_1090 rfl ?_
    refine W.lcmp hx hb dL_law_1091 ?_
    refine lv_if_eq (tgt := 1097) hx hb dL_law_1092 (by decide) (fun _ => ?_) (fun c9 => absurd (by rw [heq c_6 v]; exact lg_same _) c9)
    refine lv_goto (tgt := 1334) hx hb dL_law_1097 (by decide) ?_
    refine W.widen (k := 300 + 800 * (t + 1)) (n := 33000 + 3500 * (t + 1)) (by omega) (by omega) ?_
    exact kk (mrg x1 y1) ad2 (o9 v) H locs ls hI2 (hM.congr (cw_mrg hag)) (hN.congr mw_mrg) ((hap.cl (cw_mrg hag)).cr mw_mrg) hS (lv_sub hl [2, 3, 4, 5, 6] rfl)

set_option maxHeartbeats 1000000 in
theorem law_claimOf {p : Program} {l : Launch} {e : Env} {s : State} {m : MethodId} {args : Array Value} {below : List Frame} {meth : Method} {c : Code} {Q : State → Prop} {H : Heap} {locs : List Loc} {ls : Array Slot} {g : GG} {b L : Nat} {xs : Nat → Int32} {Inv I2 : St → Prop} (hcf : CallFix p m c cL_law 8 s args lw_all "WakegroundLaw") (hE : amb g (fun q => s.heap.size ≤ q) s s.heap) (hX : va_X b L xs s s.heap) (hbl : b < s.heap.size) (hop : Op_claimOf l g Inv I2) (t : Nat) (ht : 7 * t + 7 ≤ L) (hL : L ≤ 448) (z : St) (hI : Inv z) (ad adm : Nat → Nat → Nat) (oa : Nat) (v : Int64) (hM : mW g.1 (fun q => s.heap.size ≤ q) (cwM g ad (Mo g oa v) z) H) (hN : mW g.1 (fun q => s.heap.size ≤ q) (mwM g adm z) H) (hap : apart (cwM g ad (Mo g oa v) z) (mwM g adm z)) (hS : va_S (fun q => s.heap.size ≤ q) s.heap H locs) (hl : lv_has ls 8 [(0, .ref b), (1, .ref (ad 0 0)), (2, .ref (adm 30 0)), (3, .ref oa), (4, .int (nI (7 * t)))])
    (kk : ∀ (z : St) (ad : Nat → Nat → Nat) (v : Int64) (H : Heap) (locs : List Loc) (ls : Array Slot), I2 z → mW g.1 (fun q => s.heap.size ≤ q) (cwM g ad (Mo g oa v) z) H → mW g.1 (fun q => s.heap.size ≤ q) (mwM g adm z) H → apart (cwM g ad (Mo g oa v) z) (mwM g adm z) → va_S (fun q => s.heap.size ≤ q) s.heap H locs → lv_has ls 8 [(0, .ref b), (1, .ref (ad 0 0)), (2, .ref (adm 30 0)), (3, .ref oa), (4, .int (nI (7 * t)))] → W p l e room_1 s m args below meth c H locs (300 + 800 * (t + 1)) (33000 + 3500 * (t + 1)) Q (F0 m 1334 ls [])) : W p l e room_1 s m args below meth c H locs (300 + 800 * t) (33000 + 3500 * t) Q (F0 m 1100 ls []) := by
  have hx := hcf.1
  have hb := hcf.2.1
  have hml := hcf.2.2.1
  have hown := hcf.2.2.2.1
  have hts := hcf.2.2.2.2
  have hA0 : ∀ q : Nat, s.heap.size ≤ q → (fun q : Nat => s.heap.size ≤ q) q := fun _ h => h
  have hbA : ¬ (fun q : Nat => s.heap.size ≤ q) b := Nat.not_le.mpr hbl
  refine lv_aload_n hx hb dL_law_1100 rfl (lv_at hl 1 rfl) ?_
  refine lv_aload_n hx hb dL_law_1101 rfl (lv_at hl 0 rfl) ?_
  refine lv_iload hx hb dL_law_1102 (lv_at hl 4 rfl) ?_
  refine lv_iconst (v := 1) hx hb dL_law_1104 (by decide) ?_
  refine lv_iadd hx hb dL_law_1105 ?_
  refine m_topI (y := nI ((7 * t) + 1)) (nI_add (7 * t) 1) ?_
  refine va_sld hx hb hX hbl hbA hS (m_in (i := nI ((7 * t) + 1)) (j := ((7 * t) + 1)) rfl (by omega) (by omega)).1 dL_law_1106 ?_
  refine m_topI (y := xs ((7 * t) + 1)) (by rw [nI_clamp (by omega)]) ?_
  refine lv_aload_n hx hb dL_law_1107 rfl (lv_at hl 3 rfl) ?_
  obtain ⟨kc, o9, bv, x1, y1, hcls, hmod, hth, heq, hag, hI2⟩ := hop z hI (xs ((7 * t) + 1))
  obtain ⟨rm9, mc9, ms9, ⟨r1, r2, r3, r4, r5, r6⟩, hmet⟩ := hcls ad oa v
  refine l_cW (As := [.ref (ad 0 0), .int (xs ((7 * t) + 1)), .ref oa]) (rest := []) hcf hmet (vx_cwSW (hh := [(0, 9, 12, 13)]) (bytes := cX0_claimOf) (maxL := 4) (ret := some .int) 3 hts (lw_SW q895 q896 q34 q897) rfl r1 r2 (by decide +kernel) ⟨by show _ ≤ 22; omega, by show _ ≤ 10924; omega⟩) hE hA0 hM hN hap hS rfl hl.1 rfl (Nat.le_of_ble_eq_true rfl) dL_law_1108 ⟨by show _ ≤ 1200384; omega, by show _ ≤ 5488298; omega⟩ (fun r9 ad2 H locs hr9 hM hN hap hS => ?_)
  obtain ⟨hr9, had2⟩ := hr9
  subst hr9
  rw [← had2] at hl
  refine W.widen (k := 300 + 800 * t + 700) (n := 33000 + 3500 * t + 3300) (by omega) (by omega) ?_
  refine lv_istore (lv' := [(5, .int r9), (0, .ref b), (1, .ref (ad2 0 0)), (2, .ref (adm 30 0)), (3, .ref oa), (4, .int (nI (7 * t)))]) hx hb dL_law_1111 hl (by decide) rfl (fun ls hl => ?_)
  refine lv_aload_n hx hb dL_law_1113 rfl (lv_at hl 3 rfl) ?_
  refine lv_aload_n hx hb dL_law_1114 rfl (lv_at hl 1 rfl) ?_
  refine lv_iload hx hb dL_law_1115 (lv_at hl 5 rfl) ?_
  refine lv_iconst (v := 1) hx hb dL_law_1117 (by decide) ?_
  refine lv_iadd hx hb dL_law_1118 ?_
  refine m_topI (y := nI ((7 * t) + 1)) (nI_add (7 * t) 1) ?_
  refine va_sld hx hb hX hbl hbA hS (m_in (i := nI ((7 * t) + 1)) (j := ((7 * t) + 1)) rfl (by omega) (by omega)).1 dL_law_1119 ?_
  refine m_topI (y := xs ((7 * t) + 1)) (by rw [nI_clamp (by omega)]) ?_
  obtain ⟨rm8, mc8, ms8, ⟨q1, q2, q3, q4, q5, q6⟩, hmet8⟩ := hmod adm
  refine l_cI (post := fun r (_ : Unit) => r = bv) (M' := fun _ => mwM g adm y1) (As := [.int (xs ((7 * t) + 1))]) (rest := []) hcf hmet8 (cwV 1 hts (lw_V q1181 q1182 q1183 q41 q1184) rfl q1 q2 (by decide +kernel) ⟨by show _ ≤ 22; omega, by show _ ≤ 10924; omega⟩) hE hA0 hN hM hap.sy hS 30 0 (mwM_o g adm z) (ci := 1) rfl rfl hl.1 rfl (Nat.le_of_ble_eq_true rfl) dL_law_1120 ⟨by show _ ≤ 1200384; omega, by show _ ≤ 5488298; omega⟩ (fun r8 _ H locs hr8 hN hM hap hS => ?_)
  have hap := hap.sy
  subst hr8
  refine lv_istore (lv' := [(6, .int r8), (5, .int r9), (0, .ref b), (1, .ref (ad2 0 0)), (2, .ref (adm 30 0)), (3, .ref oa), (4, .int (nI (7 * t)))]) hx hb dL_law_1123 hl (by decide) rfl (fun ls hl => ?_)
  refine lv_aload_n hx hb dL_law_1125 rfl (lv_at hl 4 rfl) ?_
  refine l_cI (post := fun r (_ : Unit) => r = y1.1 0 0) (M' := fun _ => mwM g adm y1) (As := []) (rest := []) hcf (fun A9 => k_X4_thrown l g A9 adm y1) (cwV 0 hts (lw_V q1033 q1034 q1035 q41 q1036) rfl rfl rfl (by decide +kernel) ⟨Nat.le_of_ble_eq_true rfl, Nat.le_of_ble_eq_true rfl⟩) hE hA0 hN hM hap.sy hS 30 0 (mwM_o g adm y1) (ci := 1) rfl rfl hl.1 rfl (Nat.le_of_ble_eq_true rfl) dL_law_1126 ⟨by show _ ≤ 1200384; omega, by show _ ≤ 5488298; omega⟩ (fun r7 _ H locs hr7 hN hM hap hS => ?_)
  have hap := hap.sy
  subst hr7
  refine m_topI (y := r9) (hth) ?_
  refine lv_iload hx hb dL_law_1129 (lv_at hl 1 rfl) ?_
  refine lv_icmp_eq (tgt := 1136) hx hb dL_law_1131 (by decide) (fun _ => ?_) (fun c9 => absurd rfl c9)
  refine lv_iload hx hb dL_law_1136 (lv_at hl 1 rfl) ?_
  refine lv_if_ne (tgt := 1153) hx hb dL_law_1138 (by decide) (fun c_6 => ?_) (fun c_6 => ?_)
  · refine lv_goto (tgt := 1334) hx hb dL_law_1153 (by decide) ?_
    refine W.widen (k := 300 + 800 * (t + 1)) (n := 33000 + 3500 * (t + 1)) (by omega) (by omega) ?_
    exact kk (mrg x1 y1) ad2 (o9 v) H locs ls hI2 (hM.congr (cw_mrg hag)) (hN.congr mw_mrg) ((hap.cl (cw_mrg hag)).cr mw_mrg) hS (lv_sub hl [2, 3, 4, 5, 6] rfl)
  · refine lv_aload_n hx hb dL_law_1141 rfl (lv_at hl 5 rfl) ?_
    refine lv_iconst (v := 0) hx hb dL_law_1142 (by decide) ?_
    refine m_lald hx hb hE hM 50 0 cw_out 0 (by decide) (by decide) rfl dL_law_1143 ?_
    refine lv_iload hx hb dL_law_1144 (lv_at hl 0 rfl) ?_
    refine lv_i2l hx hb dL_law_1146 rfl ?_
    refine W.lcmp hx hb dL_law_1147 ?_
    refine lv_if_eq (tgt := 1153) hx hb dL_law_1148 (by decide) (fun _ => ?_) (fun c9 => absurd (by rw [heq c_6 v]; exact lg_same _) c9)
    refine lv_goto (tgt := 1334) hx hb dL_law_1153 (by decide) ?_
    refine W.widen (k := 300 + 800 * (t + 1)) (n := 33000 + 3500 * (t + 1)) (by omega) (by omega) ?_
    exact kk (mrg x1 y1) ad2 (o9 v) H locs ls hI2 (hM.congr (cw_mrg hag)) (hN.congr mw_mrg) ((hap.cl (cw_mrg hag)).cr mw_mrg) hS (lv_sub hl [2, 3, 4, 5, 6] rfl)

set_option maxHeartbeats 1000000 in
theorem law_claimAnew {p : Program} {l : Launch} {e : Env} {s : State} {m : MethodId} {args : Array Value} {below : List Frame} {meth : Method} {c : Code} {Q : State → Prop} {H : Heap} {locs : List Loc} {ls : Array Slot} {g : GG} {b L : Nat} {xs : Nat → Int32} {Inv I2 : St → Prop} (hcf : CallFix p m c cL_law 8 s args lw_all "WakegroundLaw") (hE : amb g (fun q => s.heap.size ≤ q) s s.heap) (hX : va_X b L xs s s.heap) (hbl : b < s.heap.size) (hop : Op_claimAnew l g Inv I2) (t : Nat) (ht : 7 * t + 7 ≤ L) (hL : L ≤ 448) (z : St) (hI : Inv z) (ad adm : Nat → Nat → Nat) (oa : Nat) (v : Int64) (hM : mW g.1 (fun q => s.heap.size ≤ q) (cwM g ad (Mo g oa v) z) H) (hN : mW g.1 (fun q => s.heap.size ≤ q) (mwM g adm z) H) (hap : apart (cwM g ad (Mo g oa v) z) (mwM g adm z)) (hS : va_S (fun q => s.heap.size ≤ q) s.heap H locs) (hl : lv_has ls 8 [(0, .ref b), (1, .ref (ad 0 0)), (2, .ref (adm 30 0)), (3, .ref oa), (4, .int (nI (7 * t)))])
    (kk : ∀ (z : St) (ad : Nat → Nat → Nat) (v : Int64) (H : Heap) (locs : List Loc) (ls : Array Slot), I2 z → mW g.1 (fun q => s.heap.size ≤ q) (cwM g ad (Mo g oa v) z) H → mW g.1 (fun q => s.heap.size ≤ q) (mwM g adm z) H → apart (cwM g ad (Mo g oa v) z) (mwM g adm z) → va_S (fun q => s.heap.size ≤ q) s.heap H locs → lv_has ls 8 [(0, .ref b), (1, .ref (ad 0 0)), (2, .ref (adm 30 0)), (3, .ref oa), (4, .int (nI (7 * t)))] → W p l e room_1 s m args below meth c H locs (300 + 800 * (t + 1)) (33000 + 3500 * (t + 1)) Q (F0 m 1334 ls [])) : W p l e room_1 s m args below meth c H locs (300 + 800 * t) (33000 + 3500 * t) Q (F0 m 1156 ls []) := by
  have hx := hcf.1
  have hb := hcf.2.1
  have hml := hcf.2.2.1
  have hown := hcf.2.2.2.1
  have hts := hcf.2.2.2.2
  have hA0 : ∀ q : Nat, s.heap.size ≤ q → (fun q : Nat => s.heap.size ≤ q) q := fun _ h => h
  have hbA : ¬ (fun q : Nat => s.heap.size ≤ q) b := Nat.not_le.mpr hbl
  refine lv_aload_n hx hb dL_law_1156 rfl (lv_at hl 1 rfl) ?_
  refine lv_aload_n hx hb dL_law_1157 rfl (lv_at hl 0 rfl) ?_
  refine lv_iload hx hb dL_law_1158 (lv_at hl 4 rfl) ?_
  refine lv_iconst (v := 1) hx hb dL_law_1160 (by decide) ?_
  refine lv_iadd hx hb dL_law_1161 ?_
  refine m_topI (y := nI ((7 * t) + 1)) (nI_add (7 * t) 1) ?_
  refine va_sld hx hb hX hbl hbA hS (m_in (i := nI ((7 * t) + 1)) (j := ((7 * t) + 1)) rfl (by omega) (by omega)).1 dL_law_1162 ?_
  refine m_topI (y := xs ((7 * t) + 1)) (by rw [nI_clamp (by omega)]) ?_
  refine lv_aload_n hx hb dL_law_1163 rfl (lv_at hl 3 rfl) ?_
  obtain ⟨kc, o9, bv, x1, y1, hcls, hmod, hth, heq, hag, hI2⟩ := hop z hI (xs ((7 * t) + 1))
  obtain ⟨rm9, mc9, ms9, ⟨r1, r2, r3, r4, r5, r6⟩, hmet⟩ := hcls ad oa v
  refine l_cW (As := [.ref (ad 0 0), .int (xs ((7 * t) + 1)), .ref oa]) (rest := []) hcf hmet (vx_cwSW (hh := [(0, 9, 12, 13)]) (bytes := cX0_claimAnew) (maxL := 4) (ret := some .int) 3 hts (lw_SW q906 q907 q34 q908) rfl r1 r2 (by decide +kernel) ⟨by show _ ≤ 22; omega, by show _ ≤ 10924; omega⟩) hE hA0 hM hN hap hS rfl hl.1 rfl (Nat.le_of_ble_eq_true rfl) dL_law_1164 ⟨by show _ ≤ 1200384; omega, by show _ ≤ 5488298; omega⟩ (fun r9 ad2 H locs hr9 hM hN hap hS => ?_)
  obtain ⟨hr9, had2⟩ := hr9
  subst hr9
  rw [← had2] at hl
  refine W.widen (k := 300 + 800 * t + 700) (n := 33000 + 3500 * t + 3300) (by omega) (by omega) ?_
  refine lv_istore (lv' := [(5, .int r9), (0, .ref b), (1, .ref (ad2 0 0)), (2, .ref (adm 30 0)), (3, .ref oa), (4, .int (nI (7 * t)))]) hx hb dL_law_1167 hl (by decide) rfl (fun ls hl => ?_)
  refine lv_aload_n hx hb dL_law_1169 rfl (lv_at hl 3 rfl) ?_
  refine lv_aload_n hx hb dL_law_1170 rfl (lv_at hl 1 rfl) ?_
  refine lv_iload hx hb dL_law_1171 (lv_at hl 5 rfl) ?_
  refine lv_iconst (v := 1) hx hb dL_law_1173 (by decide) ?_
  refine lv_iadd hx hb dL_law_1174 ?_
  refine m_topI (y := nI ((7 * t) + 1)) (nI_add (7 * t) 1) ?_
  refine va_sld hx hb hX hbl hbA hS (m_in (i := nI ((7 * t) + 1)) (j := ((7 * t) + 1)) rfl (by omega) (by omega)).1 dL_law_1175 ?_
  refine m_topI (y := xs ((7 * t) + 1)) (by rw [nI_clamp (by omega)]) ?_
  obtain ⟨rm8, mc8, ms8, ⟨q1, q2, q3, q4, q5, q6⟩, hmet8⟩ := hmod adm
  refine l_cI (post := fun r (_ : Unit) => r = bv) (M' := fun _ => mwM g adm y1) (As := [.int (xs ((7 * t) + 1))]) (rest := []) hcf hmet8 (cwV 1 hts (lw_V q1185 q1186 q1187 q41 q1188) rfl q1 q2 (by decide +kernel) ⟨by show _ ≤ 22; omega, by show _ ≤ 10924; omega⟩) hE hA0 hN hM hap.sy hS 30 0 (mwM_o g adm z) (ci := 1) rfl rfl hl.1 rfl (Nat.le_of_ble_eq_true rfl) dL_law_1176 ⟨by show _ ≤ 1200384; omega, by show _ ≤ 5488298; omega⟩ (fun r8 _ H locs hr8 hN hM hap hS => ?_)
  have hap := hap.sy
  subst hr8
  refine lv_istore (lv' := [(6, .int r8), (5, .int r9), (0, .ref b), (1, .ref (ad2 0 0)), (2, .ref (adm 30 0)), (3, .ref oa), (4, .int (nI (7 * t)))]) hx hb dL_law_1179 hl (by decide) rfl (fun ls hl => ?_)
  refine lv_aload_n hx hb dL_law_1181 rfl (lv_at hl 4 rfl) ?_
  refine l_cI (post := fun r (_ : Unit) => r = y1.1 0 0) (M' := fun _ => mwM g adm y1) (As := []) (rest := []) hcf (fun A9 => k_X4_thrown l g A9 adm y1) (cwV 0 hts (lw_V q1033 q1034 q1035 q41 q1036) rfl rfl rfl (by decide +kernel) ⟨Nat.le_of_ble_eq_true rfl, Nat.le_of_ble_eq_true rfl⟩) hE hA0 hN hM hap.sy hS 30 0 (mwM_o g adm y1) (ci := 1) rfl rfl hl.1 rfl (Nat.le_of_ble_eq_true rfl) dL_law_1182 ⟨by show _ ≤ 1200384; omega, by show _ ≤ 5488298; omega⟩ (fun r7 _ H locs hr7 hN hM hap hS => ?_)
  have hap := hap.sy
  subst hr7
  refine m_topI (y := r9) (hth) ?_
  refine lv_iload hx hb dL_law_1185 (lv_at hl 1 rfl) ?_
  refine lv_icmp_eq (tgt := 1192) hx hb dL_law_1187 (by decide) (fun _ => ?_) (fun c9 => absurd rfl c9)
  refine lv_iload hx hb dL_law_1192 (lv_at hl 1 rfl) ?_
  refine lv_if_ne (tgt := 1209) hx hb dL_law_1194 (by decide) (fun c_6 => ?_) (fun c_6 => ?_)
  · refine lv_goto (tgt := 1334) hx hb dL_law_1209 (by decide) ?_
    refine W.widen (k := 300 + 800 * (t + 1)) (n := 33000 + 3500 * (t + 1)) (by omega) (by omega) ?_
    exact kk (mrg x1 y1) ad2 (o9 v) H locs ls hI2 (hM.congr (cw_mrg hag)) (hN.congr mw_mrg) ((hap.cl (cw_mrg hag)).cr mw_mrg) hS (lv_sub hl [2, 3, 4, 5, 6] rfl)
  · refine lv_aload_n hx hb dL_law_1197 rfl (lv_at hl 5 rfl) ?_
    refine lv_iconst (v := 0) hx hb dL_law_1198 (by decide) ?_
    refine m_lald hx hb hE hM 50 0 cw_out 0 (by decide) (by decide) rfl dL_law_1199 ?_
    refine lv_iload hx hb dL_law_1200 (lv_at hl 0 rfl) ?_
    refine lv_i2l hx hb dL_law_1202 rfl ?_
    refine W.lcmp hx hb dL_law_1203 ?_
    refine lv_if_eq (tgt := 1209) hx hb dL_law_1204 (by decide) (fun _ => ?_) (fun c9 => absurd (by rw [heq c_6 v]; exact lg_same _) c9)
    refine lv_goto (tgt := 1334) hx hb dL_law_1209 (by decide) ?_
    refine W.widen (k := 300 + 800 * (t + 1)) (n := 33000 + 3500 * (t + 1)) (by omega) (by omega) ?_
    exact kk (mrg x1 y1) ad2 (o9 v) H locs ls hI2 (hM.congr (cw_mrg hag)) (hN.congr mw_mrg) ((hap.cl (cw_mrg hag)).cr mw_mrg) hS (lv_sub hl [2, 3, 4, 5, 6] rfl)

set_option maxHeartbeats 1000000 in
theorem law_balance {p : Program} {l : Launch} {e : Env} {s : State} {m : MethodId} {args : Array Value} {below : List Frame} {meth : Method} {c : Code} {Q : State → Prop} {H : Heap} {locs : List Loc} {ls : Array Slot} {g : GG} {b L : Nat} {xs : Nat → Int32} {Inv I2 : St → Prop} (hcf : CallFix p m c cL_law 8 s args lw_all "WakegroundLaw") (hE : amb g (fun q => s.heap.size ≤ q) s s.heap) (hX : va_X b L xs s s.heap) (hbl : b < s.heap.size) (hop : Op_balance l g Inv I2) (t : Nat) (ht : 7 * t + 7 ≤ L) (hL : L ≤ 448) (z : St) (hI : Inv z) (ad adm : Nat → Nat → Nat) (oa : Nat) (v : Int64) (hM : mW g.1 (fun q => s.heap.size ≤ q) (cwM g ad (Mo g oa v) z) H) (hN : mW g.1 (fun q => s.heap.size ≤ q) (mwM g adm z) H) (hap : apart (cwM g ad (Mo g oa v) z) (mwM g adm z)) (hS : va_S (fun q => s.heap.size ≤ q) s.heap H locs) (hl : lv_has ls 8 [(0, .ref b), (1, .ref (ad 0 0)), (2, .ref (adm 30 0)), (3, .ref oa), (4, .int (nI (7 * t)))])
    (kk : ∀ (z : St) (ad : Nat → Nat → Nat) (v : Int64) (H : Heap) (locs : List Loc) (ls : Array Slot), I2 z → mW g.1 (fun q => s.heap.size ≤ q) (cwM g ad (Mo g oa v) z) H → mW g.1 (fun q => s.heap.size ≤ q) (mwM g adm z) H → apart (cwM g ad (Mo g oa v) z) (mwM g adm z) → va_S (fun q => s.heap.size ≤ q) s.heap H locs → lv_has ls 8 [(0, .ref b), (1, .ref (ad 0 0)), (2, .ref (adm 30 0)), (3, .ref oa), (4, .int (nI (7 * t)))] → W p l e room_1 s m args below meth c H locs (300 + 800 * (t + 1)) (33000 + 3500 * (t + 1)) Q (F0 m 1334 ls [])) : W p l e room_1 s m args below meth c H locs (300 + 800 * t) (33000 + 3500 * t) Q (F0 m 1212 ls []) := by
  have hx := hcf.1
  have hb := hcf.2.1
  have hml := hcf.2.2.1
  have hown := hcf.2.2.2.1
  have hts := hcf.2.2.2.2
  have hA0 : ∀ q : Nat, s.heap.size ≤ q → (fun q : Nat => s.heap.size ≤ q) q := fun _ h => h
  have hbA : ¬ (fun q : Nat => s.heap.size ≤ q) b := Nat.not_le.mpr hbl
  refine lv_aload_n hx hb dL_law_1212 rfl (lv_at hl 1 rfl) ?_
  refine lv_aload_n hx hb dL_law_1213 rfl (lv_at hl 0 rfl) ?_
  refine lv_iload hx hb dL_law_1214 (lv_at hl 4 rfl) ?_
  refine lv_iconst (v := 1) hx hb dL_law_1216 (by decide) ?_
  refine lv_iadd hx hb dL_law_1217 ?_
  refine m_topI (y := nI ((7 * t) + 1)) (nI_add (7 * t) 1) ?_
  refine va_sld hx hb hX hbl hbA hS (m_in (i := nI ((7 * t) + 1)) (j := ((7 * t) + 1)) rfl (by omega) (by omega)).1 dL_law_1218 ?_
  refine m_topI (y := xs ((7 * t) + 1)) (by rw [nI_clamp (by omega)]) ?_
  refine lv_aload_n hx hb dL_law_1219 rfl (lv_at hl 0 rfl) ?_
  refine lv_iload hx hb dL_law_1220 (lv_at hl 4 rfl) ?_
  refine lv_iconst (v := 2) hx hb dL_law_1222 (by decide) ?_
  refine lv_iadd hx hb dL_law_1223 ?_
  refine m_topI (y := nI ((7 * t) + 2)) (nI_add (7 * t) 2) ?_
  refine va_sld hx hb hX hbl hbA hS (m_in (i := nI ((7 * t) + 2)) (j := ((7 * t) + 2)) rfl (by omega) (by omega)).1 dL_law_1224 ?_
  refine m_topI (y := xs ((7 * t) + 2)) (by rw [nI_clamp (by omega)]) ?_
  refine lv_aload_n hx hb dL_law_1225 rfl (lv_at hl 3 rfl) ?_
  obtain ⟨kc, o9, bv, x1, y1, hcls, hmod, hth, heq, hag, hI2⟩ := hop z hI (xs ((7 * t) + 1)) (xs ((7 * t) + 2))
  obtain ⟨rm9, mc9, ms9, ⟨r1, r2, r3, r4, r5, r6⟩, hmet⟩ := hcls ad oa v
  refine l_cW (As := [.ref (ad 0 0), .int (xs ((7 * t) + 1)), .int (xs ((7 * t) + 2)), .ref oa]) (rest := []) hcf hmet (vx_cwSW (hh := [(0, 9, 12, 15)]) (bytes := cX0_balance) (maxL := 5) (ret := some .int) 4 hts (lw_SW q913 q914 q34 q915) rfl r1 r2 (by decide +kernel) ⟨by show _ ≤ 22; omega, by show _ ≤ 10924; omega⟩) hE hA0 hM hN hap hS rfl hl.1 rfl (Nat.le_of_ble_eq_true rfl) dL_law_1226 ⟨by show _ ≤ 1200384; omega, by show _ ≤ 5488298; omega⟩ (fun r9 ad2 H locs hr9 hM hN hap hS => ?_)
  obtain ⟨hr9, had2⟩ := hr9
  subst hr9
  rw [← had2] at hl
  refine W.widen (k := 300 + 800 * t + 700) (n := 33000 + 3500 * t + 3300) (by omega) (by omega) ?_
  refine lv_istore (lv' := [(5, .int r9), (0, .ref b), (1, .ref (ad2 0 0)), (2, .ref (adm 30 0)), (3, .ref oa), (4, .int (nI (7 * t)))]) hx hb dL_law_1229 hl (by decide) rfl (fun ls hl => ?_)
  refine lv_aload_n hx hb dL_law_1231 rfl (lv_at hl 3 rfl) ?_
  refine lv_aload_n hx hb dL_law_1232 rfl (lv_at hl 1 rfl) ?_
  refine lv_iload hx hb dL_law_1233 (lv_at hl 5 rfl) ?_
  refine lv_iconst (v := 1) hx hb dL_law_1235 (by decide) ?_
  refine lv_iadd hx hb dL_law_1236 ?_
  refine m_topI (y := nI ((7 * t) + 1)) (nI_add (7 * t) 1) ?_
  refine va_sld hx hb hX hbl hbA hS (m_in (i := nI ((7 * t) + 1)) (j := ((7 * t) + 1)) rfl (by omega) (by omega)).1 dL_law_1237 ?_
  refine m_topI (y := xs ((7 * t) + 1)) (by rw [nI_clamp (by omega)]) ?_
  refine lv_aload_n hx hb dL_law_1238 rfl (lv_at hl 1 rfl) ?_
  refine lv_iload hx hb dL_law_1239 (lv_at hl 5 rfl) ?_
  refine lv_iconst (v := 2) hx hb dL_law_1241 (by decide) ?_
  refine lv_iadd hx hb dL_law_1242 ?_
  refine m_topI (y := nI ((7 * t) + 2)) (nI_add (7 * t) 2) ?_
  refine va_sld hx hb hX hbl hbA hS (m_in (i := nI ((7 * t) + 2)) (j := ((7 * t) + 2)) rfl (by omega) (by omega)).1 dL_law_1243 ?_
  refine m_topI (y := xs ((7 * t) + 2)) (by rw [nI_clamp (by omega)]) ?_
  obtain ⟨rm8, mc8, ms8, ⟨q1, q2, q3, q4, q5, q6⟩, hmet8⟩ := hmod adm
  refine l_cL (post := fun r (_ : Unit) => r = bv) (M' := fun _ => mwM g adm y1) (As := [.int (xs ((7 * t) + 1)), .int (xs ((7 * t) + 2))]) (rest := []) hcf hmet8 (cwV 2 hts (lw_V q1190 q1191 q1192 q41 q1193) rfl q1 q2 (by decide +kernel) ⟨by show _ ≤ 22; omega, by show _ ≤ 10924; omega⟩) hE hA0 hN hM hap.sy hS 30 0 (mwM_o g adm z) (ci := 1) rfl rfl hl.1 rfl (Nat.le_of_ble_eq_true rfl) dL_law_1244 ⟨by show _ ≤ 1200384; omega, by show _ ≤ 5488298; omega⟩ (fun r8 _ H locs hr8 hN hM hap hS => ?_)
  have hap := hap.sy
  subst hr8
  refine lv_lstore (lv' := [(6, .long r8), (5, .int r9), (0, .ref b), (1, .ref (ad2 0 0)), (2, .ref (adm 30 0)), (3, .ref oa), (4, .int (nI (7 * t)))]) hx hb dL_law_1247 hl (by decide) rfl (fun ls hl => ?_)
  refine lv_aload_n hx hb dL_law_1249 rfl (lv_at hl 4 rfl) ?_
  refine l_cI (post := fun r (_ : Unit) => r = y1.1 0 0) (M' := fun _ => mwM g adm y1) (As := []) (rest := []) hcf (fun A9 => k_X4_thrown l g A9 adm y1) (cwV 0 hts (lw_V q1033 q1034 q1035 q41 q1036) rfl rfl rfl (by decide +kernel) ⟨Nat.le_of_ble_eq_true rfl, Nat.le_of_ble_eq_true rfl⟩) hE hA0 hN hM hap.sy hS 30 0 (mwM_o g adm y1) (ci := 1) rfl rfl hl.1 rfl (Nat.le_of_ble_eq_true rfl) dL_law_1250 ⟨by show _ ≤ 1200384; omega, by show _ ≤ 5488298; omega⟩ (fun r7 _ H locs hr7 hN hM hap hS => ?_)
  have hap := hap.sy
  subst hr7
  refine m_topI (y := r9) (hth) ?_
  refine lv_iload hx hb dL_law_1253 (lv_at hl 1 rfl) ?_
  refine lv_icmp_eq (tgt := 1260) hx hb dL_law_1255 (by decide) (fun _ => ?_) (fun c9 => absurd rfl c9)
  refine lv_iload hx hb dL_law_1260 (lv_at hl 1 rfl) ?_
  refine lv_if_ne (tgt := 1276) hx hb dL_law_1262 (by decide) (fun c_6 => ?_) (fun c_6 => ?_)
  · refine lv_goto (tgt := 1334) hx hb dL_law_1276 (by decide) ?_
    refine W.widen (k := 300 + 800 * (t + 1)) (n := 33000 + 3500 * (t + 1)) (by omega) (by omega) ?_
    exact kk (mrg x1 y1) ad2 (o9 v) H locs ls hI2 (hM.congr (cw_mrg hag)) (hN.congr mw_mrg) ((hap.cl (cw_mrg hag)).cr mw_mrg) hS (lv_sub hl [2, 3, 4, 5, 6] rfl)
  · refine lv_aload_n hx hb dL_law_1265 rfl (lv_at hl 5 rfl) ?_
    refine lv_iconst (v := 0) hx hb dL_law_1266 (by decide) ?_
    refine m_lald hx hb hE hM 50 0 cw_out 0 (by decide) (by decide) rfl dL_law_1267 ?_
    refine lv_lload hx hb dL_law_1268 (lv_at hl 0 rfl) ?_
    refine W.lcmp hx hb dL_law_1270 ?_
    refine lv_if_eq (tgt := 1276) hx hb dL_law_1271 (by decide) (fun _ => ?_) (fun c9 => absurd (by rw [heq c_6 v]; exact lg_same _) c9)
    refine lv_goto (tgt := 1334) hx hb dL_law_1276 (by decide) ?_
    refine W.widen (k := 300 + 800 * (t + 1)) (n := 33000 + 3500 * (t + 1)) (by omega) (by omega) ?_
    exact kk (mrg x1 y1) ad2 (o9 v) H locs ls hI2 (hM.congr (cw_mrg hag)) (hN.congr mw_mrg) ((hap.cl (cw_mrg hag)).cr mw_mrg) hS (lv_sub hl [2, 3, 4, 5, 6] rfl)

set_option maxHeartbeats 1000000 in
theorem law_air {p : Program} {l : Launch} {e : Env} {s : State} {m : MethodId} {args : Array Value} {below : List Frame} {meth : Method} {c : Code} {Q : State → Prop} {H : Heap} {locs : List Loc} {ls : Array Slot} {g : GG} {b L : Nat} {xs : Nat → Int32} {Inv I2 : St → Prop} (hcf : CallFix p m c cL_law 8 s args lw_all "WakegroundLaw") (hE : amb g (fun q => s.heap.size ≤ q) s s.heap) (hX : va_X b L xs s s.heap) (hbl : b < s.heap.size) (hop : Op_air l g Inv I2) (t : Nat) (ht : 7 * t + 7 ≤ L) (hL : L ≤ 448) (z : St) (hI : Inv z) (ad adm : Nat → Nat → Nat) (oa : Nat) (v : Int64) (hM : mW g.1 (fun q => s.heap.size ≤ q) (cwM g ad (Mo g oa v) z) H) (hN : mW g.1 (fun q => s.heap.size ≤ q) (mwM g adm z) H) (hap : apart (cwM g ad (Mo g oa v) z) (mwM g adm z)) (hS : va_S (fun q => s.heap.size ≤ q) s.heap H locs) (hl : lv_has ls 8 [(0, .ref b), (1, .ref (ad 0 0)), (2, .ref (adm 30 0)), (3, .ref oa), (4, .int (nI (7 * t)))])
    (kk : ∀ (z : St) (ad : Nat → Nat → Nat) (v : Int64) (H : Heap) (locs : List Loc) (ls : Array Slot), I2 z → mW g.1 (fun q => s.heap.size ≤ q) (cwM g ad (Mo g oa v) z) H → mW g.1 (fun q => s.heap.size ≤ q) (mwM g adm z) H → apart (cwM g ad (Mo g oa v) z) (mwM g adm z) → va_S (fun q => s.heap.size ≤ q) s.heap H locs → lv_has ls 8 [(0, .ref b), (1, .ref (ad 0 0)), (2, .ref (adm 30 0)), (3, .ref oa), (4, .int (nI (7 * t)))] → W p l e room_1 s m args below meth c H locs (300 + 800 * (t + 1)) (33000 + 3500 * (t + 1)) Q (F0 m 1334 ls [])) : W p l e room_1 s m args below meth c H locs (300 + 800 * t) (33000 + 3500 * t) Q (F0 m 1279 ls []) := by
  have hx := hcf.1
  have hb := hcf.2.1
  have hml := hcf.2.2.1
  have hown := hcf.2.2.2.1
  have hts := hcf.2.2.2.2
  have hA0 : ∀ q : Nat, s.heap.size ≤ q → (fun q : Nat => s.heap.size ≤ q) q := fun _ h => h
  have hbA : ¬ (fun q : Nat => s.heap.size ≤ q) b := Nat.not_le.mpr hbl
  refine lv_aload_n hx hb dL_law_1279 rfl (lv_at hl 1 rfl) ?_
  refine lv_aload_n hx hb dL_law_1280 rfl (lv_at hl 0 rfl) ?_
  refine lv_iload hx hb dL_law_1281 (lv_at hl 4 rfl) ?_
  refine lv_iconst (v := 1) hx hb dL_law_1283 (by decide) ?_
  refine lv_iadd hx hb dL_law_1284 ?_
  refine m_topI (y := nI ((7 * t) + 1)) (nI_add (7 * t) 1) ?_
  refine va_sld hx hb hX hbl hbA hS (m_in (i := nI ((7 * t) + 1)) (j := ((7 * t) + 1)) rfl (by omega) (by omega)).1 dL_law_1285 ?_
  refine m_topI (y := xs ((7 * t) + 1)) (by rw [nI_clamp (by omega)]) ?_
  refine lv_aload_n hx hb dL_law_1286 rfl (lv_at hl 3 rfl) ?_
  obtain ⟨kc, o9, bv, x1, y1, hcls, hmod, hth, heq, hag, hI2⟩ := hop z hI (xs ((7 * t) + 1))
  obtain ⟨rm9, mc9, ms9, ⟨r1, r2, r3, r4, r5, r6⟩, hmet⟩ := hcls ad oa v
  refine l_cW (As := [.ref (ad 0 0), .int (xs ((7 * t) + 1)), .ref oa]) (rest := []) hcf hmet (vx_cwSW (hh := [(0, 8, 11, 15)]) (bytes := cX0_air) (maxL := 4) (ret := some .int) 3 hts (lw_SW q920 q921 q34 q922) rfl r1 r2 (by decide +kernel) ⟨by show _ ≤ 22; omega, by show _ ≤ 10924; omega⟩) hE hA0 hM hN hap hS rfl hl.1 rfl (Nat.le_of_ble_eq_true rfl) dL_law_1287 ⟨by show _ ≤ 1200384; omega, by show _ ≤ 5488298; omega⟩ (fun r9 ad2 H locs hr9 hM hN hap hS => ?_)
  obtain ⟨hr9, had2⟩ := hr9
  subst hr9
  rw [← had2] at hl
  refine W.widen (k := 300 + 800 * t + 700) (n := 33000 + 3500 * t + 3300) (by omega) (by omega) ?_
  refine lv_istore (lv' := [(5, .int r9), (0, .ref b), (1, .ref (ad2 0 0)), (2, .ref (adm 30 0)), (3, .ref oa), (4, .int (nI (7 * t)))]) hx hb dL_law_1290 hl (by decide) rfl (fun ls hl => ?_)
  refine lv_aload_n hx hb dL_law_1292 rfl (lv_at hl 3 rfl) ?_
  refine lv_aload_n hx hb dL_law_1293 rfl (lv_at hl 1 rfl) ?_
  refine lv_iload hx hb dL_law_1294 (lv_at hl 5 rfl) ?_
  refine lv_iconst (v := 1) hx hb dL_law_1296 (by decide) ?_
  refine lv_iadd hx hb dL_law_1297 ?_
  refine m_topI (y := nI ((7 * t) + 1)) (nI_add (7 * t) 1) ?_
  refine va_sld hx hb hX hbl hbA hS (m_in (i := nI ((7 * t) + 1)) (j := ((7 * t) + 1)) rfl (by omega) (by omega)).1 dL_law_1298 ?_
  refine m_topI (y := xs ((7 * t) + 1)) (by rw [nI_clamp (by omega)]) ?_
  obtain ⟨rm8, mc8, ms8, ⟨q1, q2, q3, q4, q5, q6⟩, hmet8⟩ := hmod adm
  refine l_cL (post := fun r (_ : Unit) => r = bv) (M' := fun _ => mwM g adm y1) (As := [.int (xs ((7 * t) + 1))]) (rest := []) hcf hmet8 (cwV 1 hts (lw_V q1198 q1199 q1200 q41 q1201) rfl q1 q2 (by decide +kernel) ⟨by show _ ≤ 22; omega, by show _ ≤ 10924; omega⟩) hE hA0 hN hM hap.sy hS 30 0 (mwM_o g adm z) (ci := 1) rfl rfl hl.1 rfl (Nat.le_of_ble_eq_true rfl) dL_law_1299 ⟨by show _ ≤ 1200384; omega, by show _ ≤ 5488298; omega⟩ (fun r8 _ H locs hr8 hN hM hap hS => ?_)
  have hap := hap.sy
  subst hr8
  refine lv_lstore (lv' := [(6, .long r8), (5, .int r9), (0, .ref b), (1, .ref (ad2 0 0)), (2, .ref (adm 30 0)), (3, .ref oa), (4, .int (nI (7 * t)))]) hx hb dL_law_1302 hl (by decide) rfl (fun ls hl => ?_)
  refine lv_aload_n hx hb dL_law_1304 rfl (lv_at hl 4 rfl) ?_
  refine l_cI (post := fun r (_ : Unit) => r = y1.1 0 0) (M' := fun _ => mwM g adm y1) (As := []) (rest := []) hcf (fun A9 => k_X4_thrown l g A9 adm y1) (cwV 0 hts (lw_V q1033 q1034 q1035 q41 q1036) rfl rfl rfl (by decide +kernel) ⟨Nat.le_of_ble_eq_true rfl, Nat.le_of_ble_eq_true rfl⟩) hE hA0 hN hM hap.sy hS 30 0 (mwM_o g adm y1) (ci := 1) rfl rfl hl.1 rfl (Nat.le_of_ble_eq_true rfl) dL_law_1305 ⟨by show _ ≤ 1200384; omega, by show _ ≤ 5488298; omega⟩ (fun r7 _ H locs hr7 hN hM hap hS => ?_)
  have hap := hap.sy
  subst hr7
  refine m_topI (y := r9) (hth) ?_
  refine lv_iload hx hb dL_law_1308 (lv_at hl 1 rfl) ?_
  refine lv_icmp_eq (tgt := 1315) hx hb dL_law_1310 (by decide) (fun _ => ?_) (fun c9 => absurd rfl c9)
  refine lv_iload hx hb dL_law_1315 (lv_at hl 1 rfl) ?_
  refine lv_if_ne (tgt := 1331) hx hb dL_law_1317 (by decide) (fun c_6 => ?_) (fun c_6 => ?_)
  · refine lv_goto (tgt := 1334) hx hb dL_law_1331 (by decide) ?_
    refine W.widen (k := 300 + 800 * (t + 1)) (n := 33000 + 3500 * (t + 1)) (by omega) (by omega) ?_
    exact kk (mrg x1 y1) ad2 (o9 v) H locs ls hI2 (hM.congr (cw_mrg hag)) (hN.congr mw_mrg) ((hap.cl (cw_mrg hag)).cr mw_mrg) hS (lv_sub hl [2, 3, 4, 5, 6] rfl)
  · refine lv_aload_n hx hb dL_law_1320 rfl (lv_at hl 5 rfl) ?_
    refine lv_iconst (v := 0) hx hb dL_law_1321 (by decide) ?_
    refine m_lald hx hb hE hM 50 0 cw_out 0 (by decide) (by decide) rfl dL_law_1322 ?_
    refine lv_lload hx hb dL_law_1323 (lv_at hl 0 rfl) ?_
    refine W.lcmp hx hb dL_law_1325 ?_
    refine lv_if_eq (tgt := 1331) hx hb dL_law_1326 (by decide) (fun _ => ?_) (fun c9 => absurd (by rw [heq c_6 v]; exact lg_same _) c9)
    refine lv_goto (tgt := 1334) hx hb dL_law_1331 (by decide) ?_
    refine W.widen (k := 300 + 800 * (t + 1)) (n := 33000 + 3500 * (t + 1)) (by omega) (by omega) ?_
    exact kk (mrg x1 y1) ad2 (o9 v) H locs ls hI2 (hM.congr (cw_mrg hag)) (hN.congr mw_mrg) ((hap.cl (cw_mrg hag)).cr mw_mrg) hS (lv_sub hl [2, 3, 4, 5, 6] rfl)
