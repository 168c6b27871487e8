/-! ===== results that may be a throw; contracts of methods that make objects ===== -/
abbrev Rs (ρ : Type) : Type := (Mem × Shp × ρ) ⊕ (Mem × Shp × Int32)
def rM {ρ : Type} (r : Rs ρ) : Mem := match r with
  | .inl x => x.1
  | .inr x => x.1
def rT {ρ : Type} (r : Rs ρ) : Shp := match r with
  | .inl x => x.2.1
  | .inr x => x.2.1
def bndE {ρ β : Type} (o : Option (Rs ρ)) (f : Mem → Shp → ρ → Option (Rs β)) : Option (Rs β) := match o with
  | none => none
  | some (.inl x) => f x.1 x.2.1 x.2.2
  | some (.inr w) => some (.inr w)
def Gx (τ : Shp) (ad : Nat → Nat) (τ' : Shp) (ad' : Nat → Nat) : Prop := Ag τ ad ad' ∧ Xt τ τ' ∧ Lv τ τ'
theorem Gx.rf {τ : Shp} {ad : Nat → Nat} : Gx τ ad τ ad := ⟨fun _ _ => rfl, fun _ _ _ => rfl, fun _ h => h⟩
theorem Gx.trans {τ0 τ1 τ2 : Shp} {ad0 ad1 ad2 : Nat → Nat} (h : Gx τ0 ad0 τ1 ad1) (k : Gx τ1 ad1 τ2 ad2) : Gx τ0 ad0 τ2 ad2 := by
  refine ⟨fun i hi => (k.1 i (h.2.2 i hi)).trans (h.1 i hi), fun i hi hz => ?_, fun i hi => k.2.2 i (h.2.2 i hi)⟩
  have e := h.2.1 i hi hz
  exact (k.2.1 i (h.2.2 i hi) (by rw [e]; exact hz)).trans e
/-- a shape that is kept; an address that is kept -/
theorem Gx.sh {τ τ' : Shp} {ad ad' : Nat → Nat} (g : Gx τ ad τ' ad') {i a : Nat} (h : sS τ i = (a + 1, 0)) : sS τ' i = (a + 1, 0) := (g.2.1 i (by rw [h]; exact Nat.succ_ne_zero _) (Or.inl (by rw [h]))).trans h
theorem Gx.sha {τ τ' : Shp} {ad ad' : Nat → Nat} (g : Gx τ ad τ' ad') {i a n : Nat} (h : sS τ i = (a + 1, n)) (ha : a + 1 < 10) : sS τ' i = (a + 1, n) := (g.2.1 i (by rw [h]; exact Nat.succ_ne_zero _) (Or.inr (by rw [h]; exact ha))).trans h
theorem Gx.ad {τ τ' : Shp} {ad ad' : Nat → Nat} (g : Gx τ ad τ' ad') {i a n : Nat} (h : sS τ i = (a + 1, n)) : ad' i = ad i := g.1 i (by rw [h]; exact Nat.succ_ne_zero _)
def WrongAt (D : gD) (x : Nat) (w : Int32) (H : Heap) : Prop := ∃ cell : Cell, H[x]? = some cell ∧ cell.cls = D.1.1 15 ∧ cell.vm = .none ∧ cell.slots[D.1.2 15 6]? = some (.int w)
def QR {ρ : Type} (D : gD) (A : Nat → Prop) (ad : Nat → Nat) (τ : Shp) (v : ρ → (Nat → Nat) → Option Value) (r : Rs ρ) : Array Value → State → Outcome → State → Nat → Nat → Prop := fun _ st o t k n =>
  ∃ ad' : Nat → Nat, Gx τ ad (rT r) ad' ∧ gW D A ad' (sS (rT r)) (rM r) t.heap ∧ va_F A st t ∧ (k + sC τ = sC (rT r) ∧ n + sL τ = sL (rT r) ∧ sC (rT r) ≤ LCl ∧ sL (rT r) ≤ LSl) ∧
    (match r with
      | .inl x => o = .returned (v x.2.2 ad')
      | .inr x => ∃ a, o = .threw a ∧ WrongAt D a x.2.2 t.heap)
def vI : Int32 → (Nat → Nat) → Option Value := fun x _ => some (.int x)
def vU : Unit → (Nat → Nat) → Option Value := fun _ _ => none
def vN : Nat → (Nat → Nat) → Option Value := fun j ad => some (.ref (ad j))
def rmA (f lo : Nat) (τ : Shp) : Room := { frames := f, cells := LCl - sC τ, slots := LSl - sL τ, locals := lo }
/-- the call's own step: whatever the instruction, it comes to the callee -/
def EnS (p : Program) (l : Launch) (e : Env) (R : Room) (s : State) (m : MethodId) (args : Array Value) (below : List Frame) (meth : Method) (c : Code) (H : Heap) (locs : List Loc) (cl sl : Nat) (y : MethodName) (maxL : Nat) (a : Array Value) (g : JFrame) (rest : List Value) : Prop :=
  ∀ T : State, T.heap = H → Stand p l e R s m args below meth c T locs cl sl → ∃ (vm₁ : Vm) (mk : MethodId) (methM : Method) (cM : Code), Stand p l e R s m args below meth c (T.setVm vm₁) locs cl sl ∧ s.methodNamed? y = some mk ∧ s.vm.method? mk = some methM ∧ methM.code = some cM ∧ cM.maxLocals = maxL ∧
    ∀ target, (∀ acts, Steps p.tables e below (doInvoke e ((T.setVm vm₁).setTop { g with stack := rest }) acts mk a).1 target) → Steps p.tables e below (T.setTop g) target
/-- a constructor's call, plain or through the nest -/
def IOKi (own : String) (idx : Nat) (y : MethodName) (bytes : ByteArray) (maxL : Nat) (n : Nat) : Prop :=
  (Cond.methodLink own idx y ∈ lw_all ∨ ∃ host, Cond.methodLinkNest own idx y host ∈ ewL) ∧ Cond.instanceMethod y ∈ lw_all ∧ Cond.code y bytes maxL none ∈ lw_all ∧ Cond.initialized y.cls ∈ lw_all ∧ y.name = "<init>" ∧ y.cls ≠ "java/lang/invoke/MethodHandle" ∧ y.cls ≠ "java/lang/invoke/VarHandle" ∧ (parseMethodDescriptor y.desc).map (fun d => d.parameters.length) = some n
section EN
variable {p : Program} {l : Launch} {e : Env} {R : Room} {s : State} {m : MethodId} {args : Array Value} {below : List Frame} {meth : Method} {c : Code} {H : Heap} {locs : List Loc} {cl sl c0 s0 : Nat} {Q : State → Prop}
variable {cc : ByteArray} {nL : Nat} {ret : Option FieldType} {pc : Nat} {ls : Array Slot} {rest : List Value} {D : gD} {A : Nat → Prop} {ad : Nat → Nat} {S : Nat → Nat × Nat} {τ : Shp} {σ : Mem} {own : String} {i : Nat}
theorem en_V {ci N idx maxL n : Nat} {Cn : String} {T : u_T} {y : MethodName} {bytes : ByteArray} {rt : Option FieldType} {As st0 : List Value} (Z : Cz D (Ew D A) A cc nL ret own p s m args meth c) (hS : St D A ad S σ s.heap H locs) (hsh : S i = (ci + 10, 0)) (hc : vwCl[ci]? = some (Cn, T, N)) (V : VOK own idx Cn y bytes maxL rt n) (hn : As.length = n) (hst : st0 = As.reverse ++ .ref (ad i) :: rest) (hd : decode cc pc = .ok (.invokevirtual idx, 3)) :
    EnS p l e R s m args below meth c H locs cl sl y maxL (Value.ref (ad i) :: As).toArray (F0 m pc ls st0) rest := by
  intro T hT X
  have hts := Z.2.2.2.2.2.2.1
  have ok : ∀ w ∈ wsV own idx Cn y (ws_ y bytes maxL rt), w.before args s = true := fun w h => hts w (V.1 w h).1
  obtain ⟨-, hC, hy1, hy2, hlen⟩ := V
  have hlink : (Cond.methodLink own idx y).before args s = true := ok _ (by simp [wsV])
  have hinst : (Cond.instanceMethod y).before args s = true := ok _ (by simp [wsV])
  have hsel : (Cond.selects Cn y y).before args s = true := ok _ (by simp [wsV])
  have hcode : (Cond.code y bytes maxL rt).before args s = true := ok _ (by simp [wsV])
  obtain ⟨cellB, hcB, hoB, hclB⟩ := g_recv Z.2.2.2.2.2 hS hsh hc
  obtain ⟨mk, methM, hnamed, hmethM, hstM, habM⟩ := Cond.instanceMethod_spec hinst
  obtain ⟨methM', cM, hmethM', hcM, -, hlM, -, -, -, hsigM⟩ := Cond.code_spec hnamed hcode
  cases hmethM.symm.trans hmethM'
  obtain ⟨c2, r2, m2, q1, q2, q3, q4, kP, hkP, hkPi⟩ := Cond.selects_spec hsel
  cases hclB.symm.trans q1
  cases (State.methodFound?_of_named hnamed ⟨hy1, hy2⟩).symm.trans q2
  cases hnamed.symm.trans q3
  have hselP : selectMethod e.platform s.vm cellB.cls mk = .method mk := by rw [Launch.admits_selectMethod X.admits]; exact q4
  obtain ⟨vm₁, X₁, hstep₁⟩ := X.invokevirtual Z.1 Z.2.2.2.2.2.1 hlink hnamed hmethM hstM hkP hkPi ⟨hy1, hy2⟩ (a := ad i) (cell := cellB) (by rw [hT]; exact hcB)
    (fun z h => by rw [h] at hoB; cases hoB) hselP hmethM habM hkP hkPi (g := F0 m pc ls st0) rfl (argsL := As) (rest := rest) (by rw [hsigM] at hlen; exact hn.trans (Option.some.inj hlen).symm) hst (by rw [Z.2.1]; exact hd)
  exact ⟨vm₁, mk, methM, cM, X₁, hnamed, hmethM, hcM, hlM, hstep₁⟩
theorem en_I {idx maxL n : Nat} {y : MethodName} {bytes : ByteArray} {As st0 : List Value} {a : Nat} (Z : Cz D (Ew D A) A cc nL ret own p s m args meth c) (V : IOKi own idx y bytes maxL n) (hn : As.length = n) (hst : st0 = As.reverse ++ .ref a :: rest) (hd : decode cc pc = .ok (.invokespecial idx, 3)) :
    EnS p l e R s m args below meth c H locs cl sl y maxL (Value.ref a :: As).toArray (F0 m pc ls st0) rest := by
  intro T hT X
  have hts := Z.2.2.2.2.2.2.1
  obtain ⟨v1, v2, v3, v4, v5, v6, v7, v8⟩ := V
  have hpl : e.platform.magicAccessors = ({} : Platform).magicAccessors := by rw [X.admits.platform]
  have hlen : ∀ sig, parseMethodDescriptor y.desc = some sig → As.length = sig.parameters.length := fun sig h => by rw [h] at v8; exact hn.trans (Option.some.inj v8).symm
  have hd' : decode c.code (F0 m pc ls st0).pc = .ok (.invokespecial idx, 3) := by rw [Z.2.1]; exact hd
  rcases v1 with v1 | ⟨host, v1⟩
  · obtain ⟨mk, methM, cM, kP, vm₁, hnamed, hmethM, hcodeM, -, hlocalsM, -, hkP, -, hW₁, hstep₁⟩ := Steps.initColdArgs (e := e) (f := F0 m pc ls st0) X.here Z.1 X.warmed hpl Z.2.2.2.2.2.1 v5 ⟨v6, v7⟩ (hts _ v1) (hts _ v2) (hts _ v3) rfl hlen hst hd'
    exact ⟨vm₁, mk, methM, cM, X.noted hW₁, hnamed, hmethM, hcodeM, hlocalsM, hstep₁⟩
  · obtain ⟨mk, methM, cM, kP, vm₁, hnamed, hmethM, hcodeM, -, hlocalsM, -, hkP, -, hW₁, hstep₁⟩ := Steps.initColdArgsNest (e := e) (f := F0 m pc ls st0) X.here Z.1 X.warmed hpl Z.2.2.2.2.2.1 v5 ⟨v6, v7⟩ (va_Nw.use rfl (Z.2.2.2.2.2.2.2.1.now.1 _ v1)) (hts _ v2) (hts _ v3) rfl hlen hst hd'
    exact ⟨vm₁, mk, methM, cM, X.noted hW₁, hnamed, hmethM, hcodeM, hlocalsM, hstep₁⟩
/-- a call of a method that makes objects or throws, in a method that does too, with no handler at the place -/
theorem a_call {ρ β : Type} {y : MethodName} {bytes : ByteArray} {maxL fr lo : Nat} {rt : Option FieldType} {av st0 : List Value} {o : Option (Rs ρ)} {g : Mem → Shp → ρ → Option (Rs β)} {v : ρ → (Nat → Nat) → Option Value} {r : Rs β} {v0 : β → (Nat → Nat) → Option Value} {ad0 : Nat → Nat} {τ0 : Shp}
    (Z : Cz D (Ew D A) A cc nL ret own p s m args meth c) (hex : c.exceptionTable.toList.map (fun h => (h.startPc, h.endPc, h.handlerPc, h.catchType)) = []) (hS : St D A ad (sS τ) σ s.heap H locs) (B : Bd (sC τ0) (sL τ0) R τ cl sl) (G : Gx τ0 ad0 τ ad) (hE : EnS p l e R s m args below meth c H locs cl sl y maxL av.toArray (F0 m pc ls st0) rest) (hcw : Cond.code y bytes maxL rt ∈ lw_all)
    (hR : fr + 1 ≤ R.frames ∧ 8 + (maxL + 11) + lo ≤ R.locals) (hsz : ls.size = nL) (hw : (rest.map fun v => v.category).sum ≤ 8) {ig : Instr} (hd : decode cc pc = .ok (ig, 3)) (h : bndE o g = some r)
    (hM : ∀ x, o = some x → Mg l y (ws_ y bytes maxL rt) (rmA fr lo τ) (va_Pc av (PreG D (Ew D A) A ad (sS τ) σ)) (QR D A ad τ v x) A)
    (kk : ∀ (σ' : Mem) (τ' : Shp) (x : ρ) (ad' : Nat → Nat) (H1 : Heap) (locs1 : List Loc) (cl' sl' : Nat), Gx τ ad τ' ad' → St D A ad' (sS τ') σ' s.heap H1 locs1 → Bd (sC τ0) (sL τ0) R τ' cl' sl' → g σ' τ' x = some r → W p l e R s m args below meth c H1 locs1 cl' sl' (GQ below (QR D A ad0 τ0 v0 r) args s A) (F0 m (pc + 3) ls ((v x ad').toList ++ rest))) :
    W p l e R s m args below meth c H locs cl sl (GQ below (QR D A ad0 τ0 v0 r) args s A) (F0 m pc ls st0) := by
  intro T hT X
  obtain ⟨vm₁, mk, methM, cM, X₁, hnamed, hmethM, hcM, hlM, hstep₁⟩ := hE T hT X
  have hts := Z.2.2.2.2.2.2.1
  have hal : s.vm.Alike vm₁ := X₁.warmed.alike
  have hG : GoodIn lw_all (ws_ y bytes maxL rt) := lw_meth hcw
  obtain ⟨b1, b2, b3, b4, b5, b6⟩ := id B
  cases o with
  | none => cases h
  | some x =>
    obtain ⟨oc, t, L, k, n', ⟨ad', g', hgw, hF, ⟨k1, k2, k3, k4⟩, hm⟩, hL, T', e1, e2, hW', X', hend⟩ := zg_back X₁ (g := { F0 m pc ls st0 with stack := rest }) rfl (hsz.trans Z.2.2.2.2.1.symm) (by show decode c.code pc = _; rw [Z.2.1]; exact hd) (X₁.named hnamed) (by show vm₁.method? mk = some methM; rw [hal.method?]; exact hmethM) hcM (hM x rfl) (fun w hw' => pay_in hts hG w hw' _ _ X₁.warmed) hR.1 (by rw [hlM]; exact Nat.le_trans (Nat.add_le_add_right (Nat.add_le_add_right (lv_room (m := m) (pc := pc) (ls := ls) (rest := rest) hw) _) _) hR.2) (by show cl + (LCl - sC τ) ≤ R.cells; omega) (by show sl + (LSl - sL τ) ≤ R.slots; omega)
      (PreG.blind _ _ _ _ (PreG.at Z.2.2.2.2.2 hS (T.setVm vm₁) hT X₁.warmed))
    have hbd : Bd (sC τ0) (sL τ0) R (rT x) (cl + k) (sl + n') := ⟨by omega, by omega, b3, b4, k3, k4⟩
    have hst : St D A ad' (sS (rT x)) (rM x) s.heap T'.heap (locs ++ L) := by
      refine ⟨by rw [e1]; exact hgw, ?_⟩
      have h0 : ((T.setVm vm₁).calling { F0 m pc ls st0 with stack := rest } mk av.toArray).heap = H := hT
      obtain ⟨hz, hk⟩ := hF
      rw [h0] at hz hk
      exact ⟨Nat.le_trans hS.2.1 (by rw [e1]; exact hz), fun q h1 h2 => by rw [e1, hk q (Nat.lt_of_lt_of_le h1 hS.2.1) h2]; exact hS.2.2.1 q h1 h2, fun q hq => by
        rcases List.mem_append.mp hq with h | h
        · exact hS.2.2.2 q h
        · exact hL q h⟩
    cases x with
    | inl x =>
      rcases hend with ⟨w, hw1, hst'⟩ | ⟨w, hw1, -⟩
      · cases hw1
        cases hm
        obtain ⟨t2, a1, q1⟩ := kk x.1 x.2.1 x.2.2 ad' T'.heap (locs ++ L) (cl + k) (sl + n') g' hst hbd h T' rfl X'
        exact ⟨t2, hstep₁ _ fun acts => by rw [doInvoke_state]; exact hst'.trans a1, q1⟩
      · cases hw1
        cases hm
    | inr x =>
      obtain ⟨a, ho, hwr⟩ := hm
      rcases hend with ⟨w, hw1, -⟩ | ⟨w, hw1, hst'⟩
      · cases hw1
        cases ho
      · cases hw1
        cases ho
        cases h
        obtain ⟨t2, a1, q1⟩ := zg_leave (Qc := QR D A ad0 τ0 v0 (.inr x)) (free := A) (a := args) (x := a) (g := { F0 m pc ls st0 with stack := rest }) (H := T'.heap) rfl X' rfl rfl rfl Z.2.2.2.1 (fun z hz => by
          have : c.exceptionTable.toList = [] := List.map_eq_nil_iff.mp hex
          rw [this] at hz; cases hz)
          (fun t' ht' _ => ⟨ad', G.trans g', by rw [ht']; exact hst.1, hst.2.F ht', ⟨hbd.1, hbd.2.1, k3, k4⟩, a, rfl, by rw [ht', e1]; exact hwr⟩) hst.2.2.2
        exact ⟨t2, hstep₁ _ fun acts => by rw [doInvoke_state]; exact hst'.trans a1, q1⟩
/-! returns -/
theorem a_of {Qc : Array Value → State → Outcome → State → Nat → Nat → Prop} {g : JFrame} (h : W p l e R s m args below meth c H locs cl sl (MQ below (fun a st o t => Qc a st o t cl sl) args s cl sl A) g) : W p l e R s m args below meth c H locs cl sl (GQ below Qc args s A) g :=
  W.mono h fun t ⟨o, h1, h2, h3, L, ⟨_, h4, h5⟩, h6⟩ => ⟨o, L, cl, sl, h1, h2, h3, h4, h5, h6⟩
theorem a_ret {ρ : Type} {v : ρ → (Nat → Nat) → Option Value} {x : ρ} {r : Rs ρ} {ad0 : Nat → Nat} {τ0 : Shp} (hS : St D A ad (sS τ) σ s.heap H locs) (B : Bd (sC τ0) (sL τ0) R τ cl sl) (G : Gx τ0 ad0 τ ad) (h : some (Sum.inl (σ, τ, x)) = some r) (t : State) (ht : t.heap = H) : QR D A ad0 τ0 v r args s (.returned (v x ad)) t cl sl := by
  cases h
  exact ⟨ad, G, by rw [ht]; exact hS.1, hS.2.F ht, ⟨B.1, B.2.1, B.2.2.2.2.1, B.2.2.2.2.2⟩, rfl⟩
theorem a_iret {x : Int32} {r : Rs Int32} {ad0 : Nat → Nat} {τ0 : Shp} (Z : Cz D (Ew D A) A cc nL (some .int) own p s m args meth c) (hS : St D A ad (sS τ) σ s.heap H locs) (B : Bd (sC τ0) (sL τ0) R τ cl sl) (G : Gx τ0 ad0 τ ad) (hd : decode cc pc = .ok (.ireturn, 1)) (h : some (Sum.inl (σ, τ, x)) = some r) : W p l e R s m args below meth c H locs cl sl (GQ below (QR D A ad0 τ0 vI r) args s A) (F0 m pc ls [.int x]) :=
  a_of (W.iret Z.1 Z.2.1 Z.2.2.1 (fun t ht _ => a_ret hS B G h t ht) hS.2.2.2 hd Z.2.2.2.1)
theorem a_zret {x : Int32} {r : Rs Int32} {ad0 : Nat → Nat} {τ0 : Shp} (Z : Cz D (Ew D A) A cc nL (some .boolean) own p s m args meth c) (hS : St D A ad (sS τ) σ s.heap H locs) (B : Bd (sC τ0) (sL τ0) R τ cl sl) (G : Gx τ0 ad0 τ ad) (hd : decode cc pc = .ok (.ireturn, 1)) (h : gd (isz x) (some (Sum.inl (σ, τ, x))) = some r) : W p l e R s m args below meth c H locs cl sl (GQ below (QR D A ad0 τ0 vI r) args s A) (F0 m pc ls [.int x]) :=
  a_of (W.zret Z.1 Z.2.1 Z.2.2.1 (isz_nar (gd_el h).1) (fun t ht _ => a_ret hS B G (gd_el h).2 t ht) hS.2.2.2 hd Z.2.2.2.1)
theorem a_vret {r : Rs Unit} {ad0 : Nat → Nat} {τ0 : Shp} (Z : Cz D (Ew D A) A cc nL none own p s m args meth c) (hS : St D A ad (sS τ) σ s.heap H locs) (B : Bd (sC τ0) (sL τ0) R τ cl sl) (G : Gx τ0 ad0 τ ad) (hd : decode cc pc = .ok (.return_, 1)) (h : some (Sum.inl (σ, τ, ())) = some r) : W p l e R s m args below meth c H locs cl sl (GQ below (QR D A ad0 τ0 vU r) args s A) (F0 m pc ls []) :=
  a_of (W.vret Z.1 Z.2.1 Z.2.2.1 (fun t ht _ => a_ret (v := vU) hS B G h t ht) hS.2.2.2 hd Z.2.2.2.1)
theorem a_aret {j : Nat} {r : Rs Nat} {ad0 : Nat → Nat} {τ0 : Shp} {C : String} (Z : Cz D (Ew D A) A cc nL (some (.object C)) own p s m args meth c) (hS : St D A ad (sS τ) σ s.heap H locs) (B : Bd (sC τ0) (sL τ0) R τ cl sl) (G : Gx τ0 ad0 τ ad) (hd : decode cc pc = .ok (.areturn, 1)) (h : some (Sum.inl (σ, τ, j)) = some r) : W p l e R s m args below meth c H locs cl sl (GQ below (QR D A ad0 τ0 vN r) args s A) (F0 m pc ls [.ref (ad j)]) :=
  a_of (W.aret Z.1 Z.2.1 Z.2.2.1 (Or.inl ⟨C, rfl⟩) (Or.inr ⟨_, rfl⟩) (fun t ht _ => a_ret (v := vN) hS B G h t ht) hS.2.2.2 hd Z.2.2.2.1)
end EN
/-- a contract out of a walk of the body -/
theorem a_met {ρ : Type} {l : Launch} {D : gD} {A : Nat → Prop} {ad : Nat → Nat} {τ : Shp} {σ : Mem} {y : MethodName} {cc : ByteArray} {maxL fr lo : Nat} {ret : Option FieldType} {av : List Value} {v : ρ → (Nat → Nat) → Option Value} {r : Rs ρ} (hc : sC τ ≤ LCl) (hs : sL τ ≤ LSl) (hy : plainName y.cls = true) (hlen : (lg_sl av).length ≤ maxL)
    (body : ∀ (p : Program) (e : Env) (s : State) (m : MethodId) (args : Array Value) (below : List Frame) (meth : Method) (c : Code) (ls : Array Slot), Cz D (Ew D A) A cc maxL ret y.cls p s m args meth c → meth.name = y.name → c.exceptionTable.toList.map (fun h => (h.startPc, h.endPc, h.handlerPc, h.catchType)) = [] → St D A ad (sS τ) σ s.heap s.heap [] → Bd (sC τ) (sL τ) (rmA fr lo τ) τ 0 0 → Gx τ ad τ ad → lv_has ls maxL (lv_args 0 av) → W p l e (rmA fr lo τ) s m args below meth c s.heap [] 0 0 (GQ below (QR D A ad τ v r) args s A) (F0 m 0 ls [])) :
    Mg l y (ws_ y cc maxL ret) (rmA fr lo τ) (va_Pc av (PreG D (Ew D A) A ad (sS τ) σ)) (QR D A ad τ v r) A := by
  refine Mg.ofW (cc := cc) (maxL := maxL) (ret := ret) (hh := []) hy his_code ?_
  intro p e s m args below meth c hx hb hr hlk hml hown hnm hex hws hv
  obtain ⟨rfl, hw, hK, hA⟩ := hv
  have hl := lv_entry av (n := maxL) hlen
  rw [lg_entry_eq]
  exact body p e s m av.toArray below meth c _ ⟨hx, hb, hr, hlk, hml, hown, fun w h => hws w (List.mem_cons_of_mem _ h), hK, hA⟩ hnm hex ⟨hw, va_S.rf⟩ ⟨by omega, by omega, by show LCl - sC τ + sC τ = LCl; omega, by show LSl - sL τ + sL τ = LSl; omega, hc, hs⟩ Gx.rf hl
