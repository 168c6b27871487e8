/-! ===== constructors by plain contracts ===== -/
theorem y_metI {l : Launch} {D : gD} {E : State → Prop} {A : Nat → Prop} {ad : Nat → Nat} {S : Nat → Nat × Nat} {σ σ' : Mem} {y : MethodName} {cc : ByteArray} {maxL : Nat} {ret : Option FieldType} {rm : Room} {av : List Value} {v : Option Value} (hy : plainName y.cls = true) (hlen : (lg_sl av).length ≤ maxL)
    (body : ∀ (p : Program) (e : Env) (s : State) (m : MethodId) (below : List Frame) (meth : Method) (c : Code) (ls : Array Slot), meth.name = y.name → Cz D E A cc maxL ret y.cls p s m av.toArray meth c → St D A ad S σ s.heap s.heap [] → lv_has ls maxL (lv_args 0 av) → W p l e rm s m av.toArray below meth c s.heap [] 0 0 (MQ below (QG D A ad S v σ') av.toArray s 0 0 A) (F0 m 0 ls [])) :
    Met l y (ws_ y cc maxL ret) rm (va_Pc av (PreG D E A ad S σ)) (QG D A ad S v σ') 0 0 A := by
  refine Met.ofW (cc := cc) (maxL := maxL) (ret := ret) hy rfl ?_
  intro p e s m args below meth c s₁ B hml hv
  obtain ⟨rfl, hw, hK, hA⟩ := hv
  have hts := atoms_spec (ws := ws_ y cc maxL ret) B.pre
  have hl := lv_entry av (n := maxL) hlen
  rw [lg_entry_eq]
  exact body p e s m below meth c _ (name_of_methodNamed B.named B.method).1 ⟨B.exec, B.bytes, B.returns, B.notSynchronized, hml, findClass_of_methodNamed B.named, fun w h => hts w (List.mem_cons_of_mem _ h), hK, hA⟩ ⟨hw, va_S.rf⟩ hl
section R3
variable {p : Program} {l : Launch} {e : Env} {R : Room} {s : State} {m : MethodId} {args : Array Value} {below : List Frame} {meth : Method} {c : Code} {H : Heap} {locs : List Loc} {cells slots : Nat} {Q : State → Prop}
variable {cc : ByteArray} {nL : Nat} {ret : Option FieldType} {pc : Nat} {ls : Array Slot} {rest : List Value} {D : gD} {A : Nat → Prop} {ad : Nat → Nat} {S : Nat → Nat × Nat} {σ : Mem} {own : String} {i : Nat} {ρ : Type} {r : ρ}
theorem h_rI {idx maxL n : Nat} {y : MethodName} {bytes : ByteArray} {rm : Room} {As st0 : List Value} {v : Option Value} {σ' : Mem} (Z : Cz D (Ew D A) A cc nL ret own p s m args meth c) (hS : St D A ad S σ s.heap H locs) (V : IOKi own idx y bytes maxL n)
    (hM : Met l y (ws_ y bytes maxL none) rm (va_Pc (.ref (ad i) :: As) (PreG D (Ew D A) A ad S σ)) (QG D A ad S v σ') 0 0 A) (hrc : rm.cells = 0) (hrs : rm.slots = 0) (hR : rm.frames + 1 ≤ R.frames ∧ 8 + (maxL + 11) + rm.locals ≤ R.locals) (hn : As.length = n) (hsz : ls.size = nL) (hst : st0 = As.reverse ++ .ref (ad i) :: rest) (hw : (rest.map fun v => v.category).sum ≤ 8) (hcl : cells ≤ R.cells) (hsl : slots ≤ R.slots) (hd : decode cc pc = .ok (.invokespecial idx, 3)) :
    va_Run p l e R s m args below meth c H locs cells slots 0 0 (F0 m pc ls st0) rest (QG D A ad S v σ' (Value.ref (ad i) :: As).toArray) A := by
  have hts := Z.2.2.2.2.2.2.1
  obtain ⟨v1, v2, v3, v4, v5, v6⟩ := V
  rcases v1 with v1 | ⟨host, v1⟩
  · exact va_runI (As := As) (rest := rest) ⟨Z.1, Z.2.1, Z.2.2.2.2.1, Z.2.2.2.2.2.1, hts⟩ hM (cwI n hts (lw_meth v3) rfl hrc hrs (hts _ v4) (hts _ v1) (hts _ v2) v5 v6 hR) ⟨PreG.blind, PreG.at Z.2.2.2.2.2 hS⟩ rfl hn hsz hst (lv_room hw) hd ⟨hcl, hsl⟩
  · exact va_runIN (As := As) (rest := rest) ⟨Z.1, Z.2.1, Z.2.2.2.2.1, Z.2.2.2.2.2.1, hts⟩ hM ⟨va_cnB n hts (lw_meth v3) rfl hrc hrs (Z.2.2.2.2.2.2.2.1.now.1 _ v1) (hts _ v4) v6 hR, v5, hts _ v2⟩ ⟨PreG.blind, PreG.at Z.2.2.2.2.2 hS⟩ rfl hn hsz hst (lv_room hw) hd ⟨hcl, hsl⟩
theorem h_cv {st0 : List Value} {a : Array Value} {o : Option Unit} {g : Unit → Option ρ} (hS : St D A ad S σ s.heap H locs) (h : bnd o g = some r) (hr : ∀ x, o = some x → va_Run p l e R s m args below meth c H locs cells slots 0 0 (F0 m pc ls st0) rest (QG D A ad S none σ a) A)
    (kk : ∀ (x : Unit) (H1 : Heap) (locs1 : List Loc), St D A ad S σ s.heap H1 locs1 → g x = some r → W p l e R s m args below meth c H1 locs1 cells slots Q (F0 m (pc + 3) ls rest)) : W p l e R s m args below meth c H locs cells slots Q (F0 m pc ls st0) := by
  obtain ⟨x, hx, h⟩ := bnd_el h
  exact y_go (mc := 0) (ms := 0) (hr x hx) hS.2 (fun H1 locs1 hS => kk x H1 locs1 hS h)
theorem h_vret0 {r : Unit} (Z : Cz D (Ew D A) A cc nL none own p s m args meth c) (hS : St D A ad S σ s.heap H locs) (hd : decode cc pc = .ok (.return_, 1)) (h : some () = some r) : W p l e R s m args below meth c H locs cells slots (MQ below (QG D A ad S none σ) args s cells slots A) (F0 m pc ls []) :=
  y_vret Z.1 Z.2.1 Z.2.2.1 Z.2.2.2.1 hS hd
end R3
