set_option maxRecDepth 100000
theorem dN_worth_22 : decode cX1_worth 22 = .ok (.new 283, 3) := by decide +kernel
theorem dN_worth_25 : decode cX1_worth 25 = .ok (.dup, 1) := by decide +kernel
theorem dN_worth_26 : decode cX1_worth 26 = .ok (.invokespecial 285, 3) := by decide +kernel
theorem dN_worth_29 : decode cX1_worth 29 = .ok (.athrow, 1) := by decide +kernel
/-! ===== ClogHouse.worth throws NoSuchElementException ===== -/
def NseAt (D : gD) (a : Nat) (H : Heap) : Prop := ∃ cell : Cell, H[a]? = some cell ∧ cell.cls = D.1.1 16 ∧ cell.vm.isStatics = false
def QN (D : gD) (A : Nat → Prop) (ad : Nat → Nat) (τ : Shp) (v : Int32 → (Nat → Nat) → Option Value) (r : Rs Int32) : Array Value → State → Outcome → State → Nat → Nat → Prop := fun _ st o t k n =>
  ∃ ad' : Nat → Nat, Gx τ ad (rT r) ad' ∧ gW D A ad' (sS (rT r)) (rM r) t.heap ∧ va_F A st t ∧ (k + sC τ = sC (rT r) ∧ n + sL τ = sL (rT r) ∧ sC (rT r) ≤ LCl ∧ sL (rT r) ≤ LSl) ∧
    (match r with
      | .inl x => o = .returned (v x.2.2 ad')
      | .inr _ => ∃ a, o = .threw a ∧ NseAt D a t.heap)
def thrN {ρ : Type} (σ : Mem) (τ : Shp) : Option (Rs ρ) := gd (decide (sC τ + 1 ≤ LCl)) (gd (decide (sL τ + 6 ≤ LSl)) (some (.inr (σ, (τ.1, τ.2.1, τ.2.2.1 + 1, τ.2.2.2 + 6), 0))))
section NS
variable {p : Program} {l : Launch} {e : Env} {R : Room} {s : State} {m : MethodId} {args : Array Value} {below : List Frame} {meth : Method} {c : Code} {H : Heap} {locs : List Loc} {cl sl c0 s0 : Nat} {Q : State → Prop}
variable {cc : ByteArray} {nL : Nat} {ret : Option FieldType} {pc : Nat} {ls : Array Slot} {rest : List Value} {D : gD} {A : Nat → Prop} {ad : Nat → Nat} {S : Nat → Nat × Nat} {τ : Shp} {σ : Mem} {own : String} {i w : Nat}
theorem a_iretN {x : Int32} {r : Rs Int32} {ad0 : Nat → Nat} {τ0 : Shp} (Z : Cz D (Ew D A) A cc nL (some .int) own p s m args meth c) (hS : St D A ad (sS τ) σ s.heap H locs) (B : Bd (sC τ0) (sL τ0) R τ cl sl) (G : Gx τ0 ad0 τ ad) (hd : decode cc pc = .ok (.ireturn, 1)) (h : some (Sum.inl (σ, τ, x)) = some r) : W p l e R s m args below meth c H locs cl sl (GQ below (QN D A ad0 τ0 vI r) args s A) (F0 m pc ls [.int x]) := by
  cases h
  exact a_of (W.iret Z.1 Z.2.1 Z.2.2.1 (fun t ht _ => ⟨ad, G, by rw [ht]; exact hS.1, hS.2.F ht, ⟨B.1, B.2.1, B.2.2.2.2.1, B.2.2.2.2.2⟩, rfl⟩) hS.2.2.2 hd Z.2.2.2.1)
theorem a_metN {y : MethodName} {maxL fr lo : Nat} {av : List Value} {v : Int32 → (Nat → Nat) → Option Value} {r : Rs Int32} (hc : sC τ ≤ LCl) (hs : sL τ ≤ LSl) (hy : plainName y.cls = true) (hlen : (lg_sl av).length ≤ maxL)
    (body : ∀ (p : Program) (e : Env) (s : State) (m : MethodId) (args : Array Value) (below : List Frame) (meth : Method) (c : Code) (ls : Array Slot), Cz D (Ew D A) A cc maxL ret y.cls p s m args meth c → meth.name = y.name → c.exceptionTable.toList.map (fun h => (h.startPc, h.endPc, h.handlerPc, h.catchType)) = [] → St D A ad (sS τ) σ s.heap s.heap [] → Bd (sC τ) (sL τ) (rmA fr lo τ) τ 0 0 → Gx τ ad τ ad → lv_has ls maxL (lv_args 0 av) → W p l e (rmA fr lo τ) s m args below meth c s.heap [] 0 0 (GQ below (QN D A ad τ v r) args s A) (F0 m 0 ls [])) :
    Mg l y (ws_ y cc maxL ret) (rmA fr lo τ) (va_Pc av (PreG D (Ew D A) A ad (sS τ) σ)) (QN D A ad τ v r) A := by
  refine Mg.ofW (cc := cc) (maxL := maxL) (ret := ret) (hh := []) hy his_code ?_
  intro p e s m args below meth c hx hb hr hlk hml hown hnm hex hws hv
  obtain ⟨rfl, hw, hK, hA⟩ := hv
  have hl := lv_entry av (n := maxL) hlen
  rw [lg_entry_eq]
  exact body p e s m av.toArray below meth c _ ⟨hx, hb, hr, hlk, hml, hown, fun w h => hws w (List.mem_cons_of_mem _ h), hK, hA⟩ hnm hex ⟨hw, va_S.rf⟩ ⟨by omega, by omega, by show LCl - sC τ + sC τ = LCl; omega, by show LSl - sL τ + sL τ = LSl; omega, hc, hs⟩ Gx.rf hl
theorem va_ldcSw (hexec : p.tables.exec = Jvm.exec) (hb : c.code = cc) {tx : String} {index q : Nat} (hown : s.vm.findClass own = some m.cls) (hZ : vk_R own index tx q s) (hdg : decode cc pc = .ok (.ldc_w index, 3))
    (kk : W p l e R s m args below meth c H locs cl sl Q (F0 m (pc + 3) ls (.ref q :: rest))) : W p l e R s m args below meth c H locs cl sl Q (F0 m pc ls rest) := by
  intro T hT X
  obtain ⟨t, a1, b1⟩ := kk T hT X
  obtain ⟨k, cf, i, a', hk, hcf, hcp, -, hr, hev'⟩ := Cond.stringRef_spec hown hZ.1
  cases hZ.2.symm.trans hev'
  obtain ⟨k', hk', he⟩ := X.warmed.alike.2.2 _ _ hk
  have hr' : k'.resolved[index]? = some (some (.string q)) := by
    rcases X.warmed.entry hk hk' index with h | ⟨h, -⟩
    · rw [h]; exact hr
    · rw [hr] at h; cases h
  refine ⟨t, ?_, b1⟩
  jvm_step X.here [X.here.top, hexec, hb, hdg, ldc_w.wp_string (e := e) (s := T) (f := F0 m pc ls rest) X.here.top hk' (by rw [he]; exact hcf) hcp hr']
  exact a1
theorem h_idxw {x : Int32} {idx1 idx2 : Nat} {kf : Fin 4} (Z : Cz D (Ew D A) A cc nL ret own p s m args meth c) (hS : St D A ad S σ s.heap H locs) (hI : idxAt own idx1 w) (V : VOK own idx2 RJ1 yJ1_indexOf cJ1_indexOf 2 (some .int) 1)
    (h1 : 5 ≤ R.frames) (h2 : 170 ≤ R.locals) (h3 : cl ≤ R.cells) (h4 : sl ≤ R.slots) (hsz : ls.size = nL) (hr : (rest.map fun v => v.category).sum ≤ 8) (hk : ls[(kf : Nat)]? = some (.val (.int x)))
    (d1 : decode cc pc = .ok (.ldc_w idx1, 3)) (d2 : decode cc (pc + 3) = .ok (.iload_n kf, 1)) (d3 : decode cc (pc + 4) = .ok (.invokevirtual idx2, 3))
    (kk : ∀ (H : Heap) (locs : List Loc), St D A ad S σ s.heap H locs → W p l e R s m args below meth c H locs cl sl Q (F0 m (pc + 7) ls (.int (idxS w x) :: rest))) :
    W p l e R s m args below meth c H locs cl sl Q (F0 m pc ls rest) := by
  obtain ⟨hw, hI⟩ := hI
  obtain ⟨-, -, adK, adV, hV, hr1, hr2, hr3, hcs, -⟩ := id (Kx.now Z.2.2.2.2.2.2.2.1)
  obtain ⟨tx, hR⟩ := hI D A s adK ⟨hr1, hr2, hr3⟩
  have hsat : SAt D A w (adK w) (adV w) s D.2.2 := ⟨(hV.1 w hw).1, (hV.1 w hw).2.1, (hV.1 w hw).2.2.1, (hV.1 w hw).2.2.2, hcs⟩
  have Z' : Cz D (Es D A w (adK w) (adV w)) A cc nL ret own p s m args meth c := ⟨Z.1, Z.2.1, Z.2.2.1, Z.2.2.2.1, Z.2.2.2.2.1, Z.2.2.2.2.2.1, Z.2.2.2.2.2.2.1, ⟨Z.2.2.2.2.2.2.2.1.1, fun U hU => SAt.moved hU.alike hsat⟩, Z.2.2.2.2.2.2.2.2⟩
  refine va_ldcSw Z.1 Z.2.1 Z.2.2.2.2.2.1 hR d1 ?_
  refine lv_iload_n Z.1 Z.2.1 d2 rfl hk ?_
  exact y_go (mc := 0) (ms := 0) (s_rV (rest := rest) Z' hS (s_recv Z' hS.2) V (wJ1_indexOf hw) rfl rfl ⟨by show 4 + 1 ≤ _; omega, by show 8 + (2 + 11) + 140 ≤ _; omega⟩ rfl hsz rfl hr h3 h4 d3) hS.2 (fun H locs hS => kk H locs hS)
def nseNames : List String := ["java/lang/RuntimeException", "java/lang/Exception"]
theorem nse_atoms : ∀ a ∈ Bundle.ownAtoms0 "ClogHouse" 285 "java/util/NoSuchElementException" nseNames, ((a ∈ lw_all ∨ a ∈ ewL) ∧ a.onTables = true) ∨ a ∈ stW := by decide +kernel
/-- the same run, told from a later heap on -/
theorem n_base {T0 T : State} {H1 : Heap} {x : Cell} {n : Nat} (X0 : Stand p l e R s m args below meth c T0 locs cl sl) (hT0 : T0.heap = H) (X : Stand p l e R s m args below meth c T locs (cl + 1) (sl + n)) (hT : T.heap = H1) (hH1 : H1 = H.push x) (hx : x.slots.size = n) (hc : cl + 1 ≤ R.cells) (hs : sl + n ≤ R.slots) :
    Stand p l e { frames := R.frames, cells := 1, slots := n, locals := R.locals } ({ s with heap := H, slotsUsed := T0.slotsUsed } : State) m args below meth c T [] 1 n := by
  have u0 : T0.slotsUsed = H.foldl (fun n c => n + c.slots.size) 0 := by
    have := X0.book
    simp only [State.slotsTrue, beq_iff_eq] at this
    rw [this, hT0]
  have u1 : T.slotsUsed = T0.slotsUsed + n := by
    have := X.book
    simp only [State.slotsTrue, beq_iff_eq] at this
    rw [this, hT, hH1, u0, Array.foldl_push, hx]
  have r1 := X.cellsAbove (n := 0) hc
  have r2 := X.slotsAbove (n := 0) hs
  have r3 := X.room
  simp only [State.hasRoom, Bool.and_eq_true, decide_eq_true_eq] at r3
  refine { admits := X.admits, cas := X.cas, clock := X.clock, frames := X.frames, room := ?_, hears := X.hears, method := X.method, code := X.code, here := X.here, tail := X.tail, warmed := X.warmed, limits := X.limits, bytes := X.bytes, same := ?_ }
  · simp only [State.hasRoom, Bool.and_eq_true, decide_eq_true_eq]
    refine ⟨⟨⟨⟨r3.1.1.1.1, r3.1.1.1.2⟩, ?_⟩, ?_⟩, ?_⟩
    · show H.size + 1 ≤ _
      rw [hT, hH1, Array.size_push] at r1
      exact r1
    · show T0.slotsUsed + n ≤ _
      omega
    · show (T0.slotsUsed == H.foldl (fun n c => n + c.slots.size) 0) = true
      rw [u0]
      exact beq_self_eq_true _
  · refine ⟨X.same.1, ?_, ?_, ?_, ?_, fun a c hc => ?_⟩
    · show H.size ≤ T.heap.size
      rw [hT, hH1, Array.size_push]; omega
    · show T.heap.size ≤ H.size + 1
      rw [hT, hH1, Array.size_push]; omega
    · show T.slotsUsed = T0.slotsUsed + ((T.heap.toList.drop H.size).map (·.slots.size)).sum
      rw [hT, hH1, Array.toList_push, List.drop_append_of_le_length (by simp), List.drop_of_length_le (by simp)]
      simp [u1, hx]
    · show ((T.heap.toList.drop H.size).map (·.slots.size)).sum ≤ n
      rw [hT, hH1, Array.toList_push, List.drop_append_of_le_length (by simp), List.drop_of_length_le (by simp)]
      simp [hx]
    · have hc' : H[a]? = some c := hc
      have hlt := (Array.getElem?_eq_some_iff.mp hc').1
      exact ⟨c, by show T.heap[a]? = some c; rw [hT, hH1, Array.getElem?_push, if_neg (Nat.ne_of_lt hlt)]; exact hc', rfl, rfl, fun _ _ => rfl⟩
theorem n_comp {T0 U : State} {n : Nat} (h0 : s.sameButNew (T0.setVm s.vm) locs cl sl) (hT0 : T0.heap = H) (h5 : ({ s with heap := H, slotsUsed := T0.slotsUsed } : State).sameButNew ({ U with vm := s.vm } : State) [] 1 n) : s.sameButNew ({ U with vm := s.vm } : State) locs (cl + 1) (sl + n) := by
  obtain ⟨a1, a2, a3, a4, a5, a6⟩ := h0
  have hold : ∀ q c, H[q]? = some c → U.heap[q]? = some c := fun q c hc => State.sameButNew.old_cell h5 hc
  obtain ⟨b1, b2, b3, b4, b5, b6⟩ := h5
  have a2' : s.heap.size ≤ H.size := by rw [← hT0]; exact a2
  have a3' : H.size ≤ s.heap.size + cl := by rw [← hT0]; exact a3
  have b2' : H.size ≤ U.heap.size := b2
  have b3' : U.heap.size ≤ H.size + 1 := b3
  have hsp : U.heap.toList = H.toList ++ U.heap.toList.drop H.size := by
    have : U.heap.toList.take H.size = H.toList := by
      apply List.ext_getElem?
      intro q
      by_cases hq : q < H.size
      · rw [List.getElem?_take_of_lt hq, Array.getElem?_toList, Array.getElem?_toList]
        have := hold q H[q] (Array.getElem?_eq_getElem hq)
        rw [this, Array.getElem?_eq_getElem hq]
      · rw [List.getElem?_eq_none (by simp; omega), List.getElem?_eq_none (by simp; omega)]
    rw [← this, List.take_append_drop]
  have hdr : U.heap.toList.drop s.heap.size = H.toList.drop s.heap.size ++ U.heap.toList.drop H.size := by
    conv => lhs; rw [hsp]
    rw [List.drop_append_of_le_length (by simpa using a2')]
  have a4' : T0.slotsUsed = s.slotsUsed + ((H.toList.drop s.heap.size).map (·.slots.size)).sum := by rw [← hT0]; exact a4
  have a5' : ((H.toList.drop s.heap.size).map (·.slots.size)).sum ≤ sl := by rw [← hT0]; exact a5
  have b4' : U.slotsUsed = T0.slotsUsed + ((U.heap.toList.drop H.size).map (·.slots.size)).sum := b4
  have b5' : ((U.heap.toList.drop H.size).map (·.slots.size)).sum ≤ n := b5
  refine ⟨b1, by show s.heap.size ≤ U.heap.size; omega, by show U.heap.size ≤ _; omega, ?_, ?_, fun a c hc => ?_⟩
  · show U.slotsUsed = s.slotsUsed + ((U.heap.toList.drop s.heap.size).map (·.slots.size)).sum
    rw [hdr, List.map_append, List.sum_append]
    omega
  · show ((U.heap.toList.drop s.heap.size).map (·.slots.size)).sum ≤ sl + n
    rw [hdr, List.map_append, List.sum_append]
    omega
  · obtain ⟨c', h1, h2⟩ := a6 a c hc
    exact ⟨c', hold a c' (by rw [← hT0]; exact h1), h2⟩
/-- ClogHouse.worth at its throw -/
theorem a_throwN {ad0 : Nat → Nat} {τ0 : Shp} {r : Rs Int32} {v0 : Int32 → (Nat → Nat) → Option Value} (htr : l.stackTraces = false) (Z : Cz D (Ew D A) A cX1_worth 9 ret "ClogHouse" p s m args meth c) (hex : c.exceptionTable.toList.map (fun h => (h.startPc, h.endPc, h.handlerPc, h.catchType)) = []) (hS : St D A ad (sS τ) σ s.heap H locs) (B : Bd (sC τ0) (sL τ0) R τ cl sl) (G : Gx τ0 ad0 τ ad) (hf : 8 ≤ R.frames) (hlo : 200 ≤ R.locals)
    (hsz : ls.size = 9) (h : thrN σ τ = some r) : W p l e R s m args below meth c H locs cl sl (GQ below (QN D A ad0 τ0 v0 r) args s A) (F0 m 22 ls []) := by
  have hx := Z.1
  have hb := Z.2.1
  have hown := Z.2.2.2.2.2.1
  have hts := Z.2.2.2.2.2.2.1
  obtain ⟨g1, h⟩ := gd_el h
  obtain ⟨g2, h⟩ := gd_el h
  have g1 := of_decide_eq_true g1
  have g2 := of_decide_eq_true g2
  cases h
  obtain ⟨b1, b2, b3, b4, b5, b6⟩ := id B
  have hKn := Z.2.2.2.2.2.2.2.1.1.1 16 _ cls_16.1
  intro T0 hT0 X0
  refine (W.newcK hx hb hown (hts _ q1158) (hts _ q1159) (hts _ q103) rfl dN_worth_22 (by omega) (by omega) hKn.2.1 rfl fun H1 kC hkC e1 z1 o1 => ?_ : W p l e R s m args below meth c H locs cl sl _ (F0 m 22 ls [])) T0 hT0 X0
  refine (?_ : W p l e R s m args below meth c H1 locs (cl + 1) (sl + 6) _ (F0 m 25 ls [.ref H.size]))
  refine lv_dup hx hb dN_worth_25 rfl ?_
  intro T hT X
  have hH1 : H1 = H.push (blank (D.1.1 16) kC) := by
    apply Array.ext_getElem?
    intro q
    rw [Array.getElem?_push]
    split
    · rename_i hq; rw [hq]; exact e1
    · rename_i hq
      by_cases hlt : q < H.size
      · exact o1 q hlt
      · rw [Array.getElem?_eq_none (by omega), Array.getElem?_eq_none (by omega)]
  have hkz : kC.instanceTypes.size = 6 := by
    obtain ⟨c', k', i1, i2, -, -, -, i6⟩ := Cond.instantiable_spec (hts _ q1159)
    cases hKn.2.1.symm.trans i1
    cases hkC.symm.trans i2
    exact i6
  have X2 := n_base X0 hT0 X hT hH1 (n := 6) (by simp [blank, hkz]) (by omega) (by omega)
  have hst : Sst D A s := by
    obtain ⟨-, -, adK, adV, -, -, -, -, -, -, -, hst⟩ := Kx.now Z.2.2.2.2.2.2.2.1
    exact hst
  have hatoms : ∀ a ∈ Bundle.ownAtoms0 "ClogHouse" 285 "java/util/NoSuchElementException" nseNames, a.before args ({ s with heap := H, slotsUsed := T0.slotsUsed } : State) = true := fun a ha => by
    rcases nse_atoms a ha with ⟨h | h, ht⟩ | h
    · exact va_tabs ht (show s.vm = _ from rfl) (hts a h)
    · exact va_tabs ht (show s.vm = _ from rfl) ((Kx.now Z.2.2.2.2.2.2.2.1).1 a h)
    · exact hst ({ s with heap := H, slotsUsed := T0.slotsUsed } : State) args (State.WarmedH.refl s).alike (fun q hq => (hS.2.2.1 q (Nat.lt_of_not_le fun z => hq (Z.2.2.2.2.2.2.2.2.1 q z)) hq).trans (Z.2.2.2.2.2.2.2.2.2 q hq)) a h
  have htr' : e.platform.stackTraces = false := by rw [X.admits.platform]; exact htr
  obtain ⟨U, h1, h2, h3, h4, h5, ce, h6, h7⟩ := X2.ctorThrow0 hx htr' (own := "ClogHouse") (cls := "java/util/NoSuchElementException") (names := nseNames) (ic := 285) hown (by decide) (by decide) hatoms
    (fun x hx' => by cases hx')
    hKn.2.1 hkC (a := H.size) (by rw [hT, hH1, Array.getElem?_push_size]; rfl) (Nat.le_refl _) (g := F0 m 26 ls [.ref H.size, .ref H.size]) rfl (hsz.trans Z.2.2.2.2.1.symm) rfl rfl (rest := []) rfl (by rw [hb]; exact dN_worth_26) (by rw [hb]; exact dN_worth_29) (fun z hz => by
      have : c.exceptionTable.toList = [] := List.map_eq_nil_iff.mp hex
      rw [this] at hz; cases hz) (by show 2 + 3 < R.frames; omega) (by show 2 * 0 + 1 + (13 * (2 + 1) + 41) ≤ R.locals; omega) Z.2.2.2.1
  have hold : ∀ q, q < H.size → U.heap[q]? = H[q]? := fun q hq => by
    rw [Array.getElem?_eq_getElem hq]
    exact State.sameButNew.old_cell h5 (Array.getElem?_eq_getElem hq)
  have hge : H.size ≤ U.heap.size := h5.2.1
  refine ⟨U, h1, .threw H.size, locs, cl + 1, sl + 6, h2, h3, ⟨ad, G.trans ⟨fun _ _ => rfl, fun _ _ _ => rfl, fun _ hi => hi⟩, ⟨fun j e' he' => (hS.1.1 j e' he').kept (hold _ (hS.1.1 j e' he').lt), hS.1.2⟩, ⟨Nat.le_trans hS.2.1 hge, fun q k1 k2 => (hold q (Nat.lt_of_lt_of_le k1 hS.2.1)).trans (hS.2.2.1 q k1 k2)⟩, ⟨by show cl + 1 + _ = sC τ + 1; omega, by show sl + 6 + _ = sL τ + 6; omega, g1, g2⟩, H.size, rfl, ce, h6, ?_, ?_⟩, h4, n_comp X0.same hT0 h5, hS.2.2.2⟩
  · exact Option.some.inj ((show s.vm.findClass _ = some ce.cls from h7.cls).symm.trans hKn.2.1)
  · rw [h7.vm]; rfl
/-- a call whose NoSuchElementException is caught here -/
theorem a_callN {β : Type} {y : MethodName} {bytes : ByteArray} {maxL fr lo b1 b2 hpc idx : Nat} {rt : Option FieldType} {av st0 : List Value} {o : Option (Rs Int32)} {g : Mem → Shp → Int32 → Option (Rs β)} {gk : Mem → Shp → Int32 → Option (Rs β)} {v : Int32 → (Nat → Nat) → Option Value} {r : Rs β} {v0 : β → (Nat → Nat) → Option Value} {ad0 : Nat → Nat} {τ0 : Shp}
    (Z : Cz D (Ew D A) A cc nL ret own p s m args meth c) (hex : c.exceptionTable.toList.map (fun h => (h.startPc, h.endPc, h.handlerPc, h.catchType)) = [(b1, b2, hpc, idx)]) (hcov : b1 ≤ pc ∧ pc < b2) (hidx : idx ≠ 0) (hcl : Cond.classLink own idx "java/util/NoSuchElementException" ∈ lw_all) (hS : St D A ad (sS τ) σ s.heap H locs) (B : Bd (sC τ0) (sL τ0) R τ cl sl) (G : Gx τ0 ad0 τ ad) (hE : EnS p l e R s m args below meth c H locs cl sl y maxL av.toArray (F0 m pc ls st0) rest) (hcw : Cond.code y bytes maxL rt ∈ lw_all)
    (hR : fr + 1 ≤ R.frames ∧ 8 + (maxL + 11) + lo ≤ R.locals) (hsz : ls.size = nL) (hw : (rest.map fun v => v.category).sum ≤ 8) {ig : Instr} (hd : decode cc pc = .ok (ig, 3)) (h : bndC o g gk = some r)
    (hM : ∀ x, o = some x → Mg l y (ws_ y bytes maxL rt) (rmA fr lo τ) (va_Pc av (PreG D (Ew D A) A ad (sS τ) σ)) (QN D A ad τ v x) A)
    (kk : ∀ (σ' : Mem) (τ' : Shp) (x : Int32) (ad' : Nat → Nat) (H1 : Heap) (locs1 : List Loc) (cl' sl' : Nat), Gx τ ad τ' ad' → St D A ad' (sS τ') σ' s.heap H1 locs1 → Bd (sC τ0) (sL τ0) R τ' cl' sl' → g σ' τ' x = some r → W p l e R s m args below meth c H1 locs1 cl' sl' (GQ below (QR D A ad0 τ0 v0 r) args s A) (F0 m (pc + 3) ls ((v x ad').toList ++ rest)))
    (kh : ∀ (σ' : Mem) (τ' : Shp) (w : Int32) (a : Nat) (ad' : Nat → Nat) (H1 : Heap) (locs1 : List Loc) (cl' sl' : Nat), Gx τ ad τ' ad' → St D A ad' (sS τ') σ' s.heap H1 locs1 → Bd (sC τ0) (sL τ0) R τ' cl' sl' → gk σ' τ' w = some r → W p l e R s m args below meth c H1 locs1 cl' sl' (GQ below (QR D A ad0 τ0 v0 r) args s A) (F0 m hpc ls [.ref a])) :
    W p l e R s m args below meth c H locs cl sl (GQ below (QR D A ad0 τ0 v0 r) args s A) (F0 m pc ls st0) := by
  intro T hT X
  obtain ⟨vm₁, mk, methM, cM, X₁, hnamed, hmethM, hcM, hlM, hstep₁⟩ := hE T hT X
  have hts := Z.2.2.2.2.2.2.1
  have hal : s.vm.Alike vm₁ := X₁.warmed.alike
  have hG : GoodIn lw_all (ws_ y bytes maxL rt) := lw_meth hcw
  obtain ⟨q1, q2, q3, q4, q5, q6⟩ := id B
  cases o with
  | none => cases h
  | some x =>
    obtain ⟨oc, t, L, k, n', ⟨ad', g', hgw, hF, ⟨k1, k2, k3, k4⟩, hm⟩, hL, T', e1, e2, hW', X', hend⟩ := zg_back X₁ (g := { F0 m pc ls st0 with stack := rest }) rfl (hsz.trans Z.2.2.2.2.1.symm) (by show decode c.code pc = _; rw [Z.2.1]; exact hd) (X₁.named hnamed) (by show vm₁.method? mk = some methM; rw [hal.method?]; exact hmethM) hcM (hM x rfl) (fun w hw' => pay_in hts hG w hw' _ _ X₁.warmed) hR.1 (by rw [hlM]; exact Nat.le_trans (Nat.add_le_add_right (Nat.add_le_add_right (lv_room (m := m) (pc := pc) (ls := ls) (rest := rest) hw) _) _) hR.2) (by show cl + (LCl - sC τ) ≤ R.cells; omega) (by show sl + (LSl - sL τ) ≤ R.slots; omega)
      (PreG.blind _ _ _ _ (PreG.at Z.2.2.2.2.2 hS (T.setVm vm₁) hT X₁.warmed))
    have hbd : Bd (sC τ0) (sL τ0) R (rT x) (cl + k) (sl + n') := ⟨by omega, by omega, q3, q4, k3, k4⟩
    have hst : St D A ad' (sS (rT x)) (rM x) s.heap T'.heap (locs ++ L) := by
      refine ⟨by rw [e1]; exact hgw, ?_⟩
      have h0 : ((T.setVm vm₁).calling { F0 m pc ls st0 with stack := rest } mk av.toArray).heap = H := hT
      obtain ⟨hz, hk⟩ := hF
      rw [h0] at hz hk
      exact ⟨Nat.le_trans hS.2.1 (by rw [e1]; exact hz), fun q h1 h2 => by rw [e1, hk q (Nat.lt_of_lt_of_le h1 hS.2.1) h2]; exact hS.2.2.1 q h1 h2, fun q hq => by
        rcases List.mem_append.mp hq with h | h
        · exact hS.2.2.2 q h
        · exact hL q h⟩
    cases x with
    | inl x =>
      rcases hend with ⟨w, hw1, hst'⟩ | ⟨w, hw1, -⟩
      · cases hw1
        cases hm
        obtain ⟨t2, a1, q1⟩ := kk x.1 x.2.1 x.2.2 ad' T'.heap (locs ++ L) (cl + k) (sl + n') g' hst hbd h T' rfl X'
        exact ⟨t2, hstep₁ _ fun acts => by rw [doInvoke_state]; exact hst'.trans a1, q1⟩
      · cases hw1
        cases hm
    | inr x =>
      obtain ⟨a, ho, hwr⟩ := hm
      rcases hend with ⟨w, hw1, -⟩ | ⟨w, hw1, hst'⟩
      · cases hw1
        cases ho
      · cases hw1
        cases ho
        rw [← e1] at hwr
        obtain ⟨cell, w1, w2, w3⟩ := id hwr
        obtain ⟨z, hz⟩ : ∃ z, c.exceptionTable.toList = [z] := by
          have hlen : c.exceptionTable.toList.length = 1 := by rw [← List.length_map (f := fun h => (h.startPc, h.endPc, h.handlerPc, h.catchType)), hex]; rfl
          exact List.length_eq_one_iff.mp hlen
        rw [hz] at hex
        have hz1 : z.startPc = b1 ∧ z.endPc = b2 ∧ z.handlerPc = hpc ∧ z.catchType = idx := by simpa using hex
        have hKn := Z.2.2.2.2.2.2.2.1.1.1 16 _ cls_16.1
        obtain ⟨vm2, X2, hst2⟩ := c_catch (g := { F0 m pc ls st0 with stack := rest }) X' rfl Z.2.2.2.2.2.1 (hts _ hcl) w1 w3 hKn.2.1 (by rw [w2]; exact va_asg _ _) hz (by show (decide (z.startPc ≤ pc) && decide (pc < z.endPc)) = true; rw [hz1.1, hz1.2.1]; simp [hcov.1, hcov.2]) hz1.2.2.2 hidx
        obtain ⟨t2, a1, q1⟩ := kh x.1 x.2.1 x.2.2 a ad' T'.heap (locs ++ L) (cl + k) (sl + n') g' hst hbd h (T'.setVm vm2) rfl X2
        rw [hz1.2.2.1] at hst2
        exact ⟨t2, hstep₁ _ fun acts => by rw [doInvoke_state]; exact hst'.trans (hst2 _ a1), q1⟩
end NS
