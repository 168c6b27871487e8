set_option maxRecDepth 100000
/-! ===== a throw is caught in the method itself, its class resolved or not yet ===== -/
theorem cold_go {e : Env} {s : State} {f : JFrame} {a : Addr} {x : Jvm.ClassFile.ExceptionTableEntry} {t : List Jvm.ClassFile.ExceptionTableEntry} {c : ClassId} {cell : Cell} {vm' : Vm} {Q : Handler → Pre} {E : CtlPost} {d : Bool} {acts : List Action} (hx : covers x f.pc = true) (h0 : x.catchType ≠ 0) (hg : (resolveClass f.method.cls x.catchType).Gives e.toSetting s.vm (.ok c) vm') (hsz : vm'.classes.size ≤ s.vm.classes.size) (hcell : s.heap[a]? = some cell) (hobj : ∀ k, cell.vm ≠ .statics k) (hk : ∃ k, vm'.classes[cell.cls]? = some k) (hc : ∃ k, vm'.classes[c]? = some k) (hfit : vm'.assignable cell.cls c = true) :
    wp (findHandler.go f a (x :: t)) Q E e d acts s ↔ Q (.found x.handlerPc) d acts (s.setVm vm') := by
  simp only [covers] at hx
  obtain ⟨ha, ht⟩ := hg.op (op := VmOp.resolveClass f.method.cls x.catchType) rfl
  simp [findHandler.go, hx, h0, ha, ht, hsz, hcell, hobj, hk, hc, hfit, VmOp.dirties, VmOp.acts]
theorem cold_catch {e : Env} {s : State} {a : Addr} {f : JFrame} {r : List Frame} {pc : Nat} {vm' : Vm} (hfind : ∀ (Q : Handler → Pre) (E : CtlPost) (d : Bool) (acts : List Action), wp (findHandler f a) Q E e d acts s ↔ Q (.found pc) d acts (s.setVm vm')) :
    (stepThrowing e s a (.java f :: r)).Is ((s.setVm vm').setFrames (.java { f with pc := pc, stack := [.ref a] } :: r)) [] := by
  simp only [stepThrowing, searchFrame, vmDo]
  generalize hr : Sem.go _ e false [] s = res
  obtain ⟨as, rfl, ha⟩ := Sem.eq_ok_of hr (a := Handler.found pc) (s' := s.setVm vm') (acts' := []) (by simp [hfind _ _ _ _])
  exact ⟨rfl, ha⟩
section CT
variable {p : Program} {l : Launch} {e : Env} {R : Room} {s : State} {m : MethodId} {args : Array Value} {below : List Frame} {meth : Method} {c : Code} {T : State} {H : Heap} {locs : List Loc} {cells slots cl sl c0 s0 : Nat} {Q : State → Prop}
variable {cc : ByteArray} {nL : Nat} {ret : Option FieldType} {pc : Nat} {ls : Array Slot} {rest : List Value} {D : gD} {A : Nat → Prop} {ad : Nat → Nat} {S : Nat → Nat × Nat} {τ : Shp} {σ : Mem} {own : String} {i : Nat}
theorem c_catch (X : Stand p l e R s m args below meth c T locs cells slots) {g : JFrame} (hg : g.method = m) {name : String} {idx : Nat} (hown : s.vm.findClass own = some m.cls) (hlink : (Cond.classLink own idx name).before args s = true) {a : Addr} {cell : Cell} {cT : ClassId} (hcell : T.heap[a]? = some cell) (hobj : cell.vm.isStatics = false) (hcT : s.vm.findClass name = some cT) (hasg : s.vm.assignable cell.cls cT = true)
    {x : Jvm.ClassFile.ExceptionTableEntry} (htab : c.exceptionTable.toList = [x]) (hx : covers x g.pc = true) (h0 : x.catchType = idx) (hi : idx ≠ 0) :
    ∃ vm', Stand p l e R s m args below meth c (T.setVm vm') locs cells slots ∧ ∀ target, Steps p.tables e below ((T.setVm vm').setTop { g with pc := x.handlerPc, stack := [.ref a] }) target → Steps p.tables e below ((T.setTop g).pushFrame (.throwing a)) target := by
  have hpl : e.platform.magicAccessors = ({} : Platform).magicAccessors := by rw [X.admits.platform]
  obtain ⟨c', hc', hcl⟩ := Cond.classLink_spec hown hlink e.platform hpl
  cases hcT.symm.trans hc'
  obtain ⟨dk, _, _, kt, hd, _, _, _, _, hkt, _, hopen⟩ := hcl.here
  obtain ⟨ks, hks⟩ := Vm.classAt_of_assignable hasg ⟨kt, hkt⟩
  have hcl₀ := X.warmed.classLinks hcl
  have hW' : s.WarmedH (T.vm.noted m.cls idx (.cls cT)) := X.warmed.noted hd hopen (State.rightAt_cls hcl)
  obtain ⟨ks', hks', -⟩ := hW'.alike.2.2 _ _ hks
  obtain ⟨kt', hkt', -⟩ := hW'.alike.2.2 _ _ hkt
  refine ⟨_, X.noted hW', fun target hrest => ?_⟩
  subst hg
  subst h0
  have h : At T g.method c below := X.here
  have hmeth : T.vm.method? g.method = some meth := X.method'
  have hcode : meth.code = some c := X.code
  have hfind : ∀ (Q : Handler → Pre) (E : CtlPost) (d : Bool) (acts : List Action), wp (findHandler g a) Q E e d acts ((T.setTop g).pushFrame (.throwing a)) ↔ Q (.found x.handlerPc) d acts (((T.setTop g).pushFrame (.throwing a)).setVm (T.vm.noted g.method.cls x.catchType (.cls cT))) := by
    intro Q E d acts
    rw [Jvm.W.findHandler_eq (meth := meth) (code := c) (by rw [Stand.throwing_vm]; exact hmeth) hcode, htab]
    exact cold_go hx hi (by rw [Stand.throwing_vm]; exact resolveClass_links e.toSetting hcl₀) (by rw [Stand.throwing_vm]; simp [Vm.noted]) (by rw [Stand.throwing_heap]; exact hcell) (VmData.ne_statics_of hobj) ⟨ks', hks'⟩ ⟨kt', hkt'⟩ (by rw [hW'.alike.assignable]; exact hasg)
  obtain ⟨hgo, hw⟩ := h.throwing a
  refine Steps.head hgo hw ?_
  rw [stepThread_throwing (frames_entered h.top _), (cold_catch (s := (T.setTop g).pushFrame (.throwing a)) hfind).1]
  obtain ⟨g₀, hg⟩ := Option.isSome_iff_exists.mp h.top
  obtain ⟨r, hr⟩ := State.topJava?_eq_some.mp hg
  have hr' : (T.setVm (T.vm.noted g.method.cls x.catchType (.cls cT))).frames = .java g₀ :: r := hr
  rw [State.setTop_of_frames _ hr'] at hrest
  have e1 : (((T.setTop g).pushFrame (.throwing a)).setVm (T.vm.noted g.method.cls x.catchType (.cls cT))) = ((T.setVm (T.vm.noted g.method.cls x.catchType (.cls cT))).setTop g).pushFrame (.throwing a) := by
    rw [State.pushFrame, State.pushFrame, State.setTop_of_frames _ hr, State.setTop_of_frames _ hr', State.setFrames_setFrames, State.setFrames_setFrames]
    rfl
  rw [e1, State.pushFrame, State.setFrames_setFrames, State.setTop_of_frames _ hr', State.setFrames_setFrames]
  rw [hr]
  exact hrest
def bndC {ρ β : Type} (o : Option (Rs ρ)) (f : Mem → Shp → ρ → Option (Rs β)) (k : Mem → Shp → Int32 → Option (Rs β)) : Option (Rs β) := match o with
  | none => none
  | some (.inl x) => f x.1 x.2.1 x.2.2
  | some (.inr w) => k w.1 w.2.1 w.2.2
/-- a call whose throw of Wrong is caught here -/
theorem a_callC {ρ β : Type} {y : MethodName} {bytes : ByteArray} {maxL fr lo b1 b2 hpc idx : Nat} {rt : Option FieldType} {av st0 : List Value} {o : Option (Rs ρ)} {g : Mem → Shp → ρ → Option (Rs β)} {gk : Mem → Shp → Int32 → Option (Rs β)} {v : ρ → (Nat → Nat) → Option Value} {r : Rs β} {v0 : β → (Nat → Nat) → Option Value} {ad0 : Nat → Nat} {τ0 : Shp}
    (Z : Cz D (Ew D A) A cc nL ret own p s m args meth c) (hex : c.exceptionTable.toList.map (fun h => (h.startPc, h.endPc, h.handlerPc, h.catchType)) = [(b1, b2, hpc, idx)]) (hcov : b1 ≤ pc ∧ pc < b2) (hidx : idx ≠ 0) (hcl : Cond.classLink own idx "ClogHouse$Wrong" ∈ lw_all) (hS : St D A ad (sS τ) σ s.heap H locs) (B : Bd (sC τ0) (sL τ0) R τ cl sl) (G : Gx τ0 ad0 τ ad) (hE : EnS p l e R s m args below meth c H locs cl sl y maxL av.toArray (F0 m pc ls st0) rest) (hcw : Cond.code y bytes maxL rt ∈ lw_all)
    (hR : fr + 1 ≤ R.frames ∧ 8 + (maxL + 11) + lo ≤ R.locals) (hsz : ls.size = nL) (hw : (rest.map fun v => v.category).sum ≤ 8) {ig : Instr} (hd : decode cc pc = .ok (ig, 3)) (h : bndC o g gk = some r)
    (hM : ∀ x, o = some x → Mg l y (ws_ y bytes maxL rt) (rmA fr lo τ) (va_Pc av (PreG D (Ew D A) A ad (sS τ) σ)) (QR D A ad τ v x) A)
    (kk : ∀ (σ' : Mem) (τ' : Shp) (x : ρ) (ad' : Nat → Nat) (H1 : Heap) (locs1 : List Loc) (cl' sl' : Nat), Gx τ ad τ' ad' → St D A ad' (sS τ') σ' s.heap H1 locs1 → Bd (sC τ0) (sL τ0) R τ' cl' sl' → g σ' τ' x = some r → W p l e R s m args below meth c H1 locs1 cl' sl' (GQ below (QR D A ad0 τ0 v0 r) args s A) (F0 m (pc + 3) ls ((v x ad').toList ++ rest)))
    (kh : ∀ (σ' : Mem) (τ' : Shp) (w : Int32) (a : Nat) (ad' : Nat → Nat) (H1 : Heap) (locs1 : List Loc) (cl' sl' : Nat), Gx τ ad τ' ad' → St D A ad' (sS τ') σ' s.heap H1 locs1 → Bd (sC τ0) (sL τ0) R τ' cl' sl' → WrongAt D a w H1 → gk σ' τ' w = some r → W p l e R s m args below meth c H1 locs1 cl' sl' (GQ below (QR D A ad0 τ0 v0 r) args s A) (F0 m hpc ls [.ref a])) :
    W p l e R s m args below meth c H locs cl sl (GQ below (QR D A ad0 τ0 v0 r) args s A) (F0 m pc ls st0) := by
  intro T hT X
  obtain ⟨vm₁, mk, methM, cM, X₁, hnamed, hmethM, hcM, hlM, hstep₁⟩ := hE T hT X
  have hts := Z.2.2.2.2.2.2.1
  have hal : s.vm.Alike vm₁ := X₁.warmed.alike
  have hG : GoodIn lw_all (ws_ y bytes maxL rt) := lw_meth hcw
  obtain ⟨q1, q2, q3, q4, q5, q6⟩ := id B
  cases o with
  | none => cases h
  | some x =>
    obtain ⟨oc, t, L, k, n', ⟨ad', g', hgw, hF, ⟨k1, k2, k3, k4⟩, hm⟩, hL, T', e1, e2, hW', X', hend⟩ := zg_back X₁ (g := { F0 m pc ls st0 with stack := rest }) rfl (hsz.trans Z.2.2.2.2.1.symm) (by show decode c.code pc = _; rw [Z.2.1]; exact hd) (X₁.named hnamed) (by show vm₁.method? mk = some methM; rw [hal.method?]; exact hmethM) hcM (hM x rfl) (fun w hw' => pay_in hts hG w hw' _ _ X₁.warmed) hR.1 (by rw [hlM]; exact Nat.le_trans (Nat.add_le_add_right (Nat.add_le_add_right (lv_room (m := m) (pc := pc) (ls := ls) (rest := rest) hw) _) _) hR.2) (by show cl + (LCl - sC τ) ≤ R.cells; omega) (by show sl + (LSl - sL τ) ≤ R.slots; omega)
      (PreG.blind _ _ _ _ (PreG.at Z.2.2.2.2.2 hS (T.setVm vm₁) hT X₁.warmed))
    have hbd : Bd (sC τ0) (sL τ0) R (rT x) (cl + k) (sl + n') := ⟨by omega, by omega, q3, q4, k3, k4⟩
    have hst : St D A ad' (sS (rT x)) (rM x) s.heap T'.heap (locs ++ L) := by
      refine ⟨by rw [e1]; exact hgw, ?_⟩
      have h0 : ((T.setVm vm₁).calling { F0 m pc ls st0 with stack := rest } mk av.toArray).heap = H := hT
      obtain ⟨hz, hk⟩ := hF
      rw [h0] at hz hk
      exact ⟨Nat.le_trans hS.2.1 (by rw [e1]; exact hz), fun q h1 h2 => by rw [e1, hk q (Nat.lt_of_lt_of_le h1 hS.2.1) h2]; exact hS.2.2.1 q h1 h2, fun q hq => by
        rcases List.mem_append.mp hq with h | h
        · exact hS.2.2.2 q h
        · exact hL q h⟩
    cases x with
    | inl x =>
      rcases hend with ⟨w, hw1, hst'⟩ | ⟨w, hw1, -⟩
      · cases hw1
        cases hm
        obtain ⟨t2, a1, q1⟩ := kk x.1 x.2.1 x.2.2 ad' T'.heap (locs ++ L) (cl + k) (sl + n') g' hst hbd h T' rfl X'
        exact ⟨t2, hstep₁ _ fun acts => by rw [doInvoke_state]; exact hst'.trans a1, q1⟩
      · cases hw1
        cases hm
    | inr x =>
      obtain ⟨a, ho, hwr⟩ := hm
      rcases hend with ⟨w, hw1, -⟩ | ⟨w, hw1, hst'⟩
      · cases hw1
        cases ho
      · cases hw1
        cases ho
        rw [← e1] at hwr
        obtain ⟨cell, w1, w2, w3, w4⟩ := id hwr
        obtain ⟨z, hz⟩ : ∃ z, c.exceptionTable.toList = [z] := by
          have hlen : c.exceptionTable.toList.length = 1 := by rw [← List.length_map (f := fun h => (h.startPc, h.endPc, h.handlerPc, h.catchType)), hex]; rfl
          exact List.length_eq_one_iff.mp hlen
        rw [hz] at hex
        have hz1 : z.startPc = b1 ∧ z.endPc = b2 ∧ z.handlerPc = hpc ∧ z.catchType = idx := by simpa using hex
        have hKn := Z.2.2.2.2.2.2.2.1.1.1 15 _ cls_15.1
        obtain ⟨vm2, X2, hst2⟩ := c_catch (g := { F0 m pc ls st0 with stack := rest }) X' rfl Z.2.2.2.2.2.1 (hts _ hcl) w1 (by rw [w3]; rfl) hKn.2.1 (by rw [w2]; exact va_asg _ _) hz (by show (decide (z.startPc ≤ pc) && decide (pc < z.endPc)) = true; rw [hz1.1, hz1.2.1]; simp [hcov.1, hcov.2]) hz1.2.2.2 hidx
        obtain ⟨t2, a1, q1⟩ := kh x.1 x.2.1 x.2.2 a ad' T'.heap (locs ++ L) (cl + k) (sl + n') g' hst hbd hwr h (T'.setVm vm2) rfl X2
        rw [hz1.2.2.1] at hst2
        exact ⟨t2, hstep₁ _ fun acts => by rw [doInvoke_state]; exact hst'.trans (hst2 _ a1), q1⟩
/-- the field 'at' of what was caught -/
theorem c_at {a idx : Nat} {w : Int32} (Z : Cz D (Ew D A) A cc nL ret own p s m args meth c) (hw : WrongAt D a w H) (hl : FLk own idx TX9 6) (hd : decode cc pc = .ok (.getfield idx, 3))
    (kk : W p l e R s m args below meth c H locs cells slots Q (F0 m (pc + 3) ls (.int w :: rest))) : W p l e R s m args below meth c H locs cells slots Q (F0 m pc ls (.ref a :: rest)) := by
  obtain ⟨hx, hb, -, -, -, hown, hts, hK, -⟩ := Z
  obtain ⟨cell, q1, q2, q3, q4⟩ := hw
  obtain ⟨hSl, hfc, kC, hkC, hkind⟩ := hK.1.1 15 _ cls_15.1
  obtain ⟨cf, kf, fi, f, hi, hsl⟩ := hSl 6 (by decide)
  have hst := (u_facts hfc hkC (u_lays hts cls_15.2.1 (by decide)) hi).1
  have hval : cell.slots[f.slot]? = some (.int w) := by rw [hsl]; exact q4
  rcases hl with ⟨ref, hlk, hsm⟩ | ⟨ref, host, hlk, hsm⟩
  · exact W.getf hx hb hown (hts _ hlk) (FLk.same hts hsm _ hi) hst q1 (by rw [q3]; exact fun h => by cases h) (v := .int w) hval rfl rfl hd kk
  · exact va_Wgetf hx hb hown (va_Nw.use rfl (hK.now.1 _ hlk)) (FLk.same hts hsm _ hi) hst q1 (by rw [q3]; exact fun h => by cases h) (v := .int w) hval rfl rfl hd kk
end CT
theorem a_metW {ρ : Type} {l : Launch} {D : gD} {A : Nat → Prop} {ad : Nat → Nat} {τ : Shp} {σ : Mem} {y : MethodName} {cc : ByteArray} {maxL fr lo : Nat} {ret : Option FieldType} {hh : List (Nat × Nat × Nat × Nat)} {av : List Value} {v : ρ → (Nat → Nat) → Option Value} {r : Rs ρ} (hc : sC τ ≤ LCl) (hs : sL τ ≤ LSl) (hy : plainName y.cls = true) (hlen : (lg_sl av).length ≤ maxL)
    (body : ∀ (p : Program) (e : Env) (s : State) (m : MethodId) (args : Array Value) (below : List Frame) (meth : Method) (c : Code) (ls : Array Slot), Cz D (Ew D A) A cc maxL ret y.cls p s m args meth c → meth.name = y.name → c.exceptionTable.toList.map (fun h => (h.startPc, h.endPc, h.handlerPc, h.catchType)) = hh → St D A ad (sS τ) σ s.heap s.heap [] → Bd (sC τ) (sL τ) (rmA fr lo τ) τ 0 0 → Gx τ ad τ ad → lv_has ls maxL (lv_args 0 av) → W p l e (rmA fr lo τ) s m args below meth c s.heap [] 0 0 (GQ below (QR D A ad τ v r) args s A) (F0 m 0 ls [])) :
    Mg l y (wsW_ y cc maxL ret hh) (rmA fr lo τ) (va_Pc av (PreG D (Ew D A) A ad (sS τ) σ)) (QR D A ad τ v r) A := by
  refine Mg.ofW (cc := cc) (maxL := maxL) (ret := ret) (hh := hh) hy his_with ?_
  intro p e s m args below meth c hx hb hr hlk hml hown hnm hex hws hv
  obtain ⟨rfl, hw, hK, hA⟩ := hv
  have hl := lv_entry av (n := maxL) hlen
  rw [lg_entry_eq]
  exact body p e s m av.toArray below meth c _ ⟨hx, hb, hr, hlk, hml, hown, fun w h => hws w (List.mem_cons_of_mem _ h), hK, hA⟩ hnm hex ⟨hw, va_S.rf⟩ ⟨by omega, by omega, by show LCl - sC τ + sC τ = LCl; omega, by show LSl - sL τ + sL τ = LSl; omega, hc, hs⟩ Gx.rf hl
