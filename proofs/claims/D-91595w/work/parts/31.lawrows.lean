set_option maxRecDepth 100000
/-! ===== rows of the law's own walk ===== -/
def bndL {ρ β : Type} (o : Option (Rs ρ)) (f : Mem → Shp → ρ → Option β) : Option β := match o with
  | none => none
  | some (.inl x) => f x.1 x.2.1 x.2.2
  | some (.inr _) => none
def sldI {β : Type} (L : Nat) (xs : Nat → Int32) (j : Int32) (f : Int32 → Option β) : Option β := gd (inb j L) (f (xs j.toNatClampNeg))
section LR
variable {p : Program} {l : Launch} {e : Env} {R : Room} {s : State} {m : MethodId} {args : Array Value} {below : List Frame} {meth : Method} {c : Code} {H : Heap} {locs : List Loc} {cl sl c0 s0 : Nat} {Q : State → Prop}
variable {cc : ByteArray} {nL : Nat} {ret : Option FieldType} {pc : Nat} {ls : Array Slot} {rest : List Value} {D : gD} {A : Nat → Prop} {ad : Nat → Nat} {S : Nat → Nat × Nat} {τ : Shp} {σ : Mem} {own : String} {i b L : Nat} {xs : Nat → Int32}
theorem h_sld {β : Type} {r : β} {j : Int32} {f : Int32 → Option β} (Z : Cz D (Ew D A) A cc nL ret own p s m args meth c) (hX : va_X b L xs s s.heap) (hbl : b < s.heap.size) (hbA : ¬ A b) (hS : St D A ad S σ s.heap H locs) (hd : decode cc pc = .ok (.iaload, 1)) (h : sldI L xs j f = some r)
    (kk : ∀ x, f x = some r → W p l e R s m args below meth c H locs cl sl Q (F0 m (pc + 1) ls (.int x :: rest))) : W p l e R s m args below meth c H locs cl sl Q (F0 m pc ls (.int j :: .ref b :: rest)) := by
  obtain ⟨h1, h⟩ := gd_el h
  exact va_sld Z.1 Z.2.1 hX hbl hbA hS.2 (inb_in h1) hd (kk _ h)
theorem h_slen (Z : Cz D (Ew D A) A cc nL ret own p s m args meth c) (hX : va_X b L xs s s.heap) (hbl : b < s.heap.size) (hbA : ¬ A b) (hS : St D A ad S σ s.heap H locs) (hd : decode cc pc = .ok (.arraylength, 1))
    (kk : W p l e R s m args below meth c H locs cl sl Q (F0 m (pc + 1) ls (.int (nI L) :: rest))) : W p l e R s m args below meth c H locs cl sl Q (F0 m pc ls (.ref b :: rest)) := va_slen Z.1 Z.2.1 hX hbl hbA hS.2 hd kk
/-- a virtual call of a method with handlers -/
theorem en_VW {ci N idx maxL n : Nat} {Cn : String} {T : u_T} {y : MethodName} {bytes : ByteArray} {rt : Option FieldType} {hh : List (Nat × Nat × Nat × Nat)} {As st0 : List Value} (Z : Cz D (Ew D A) A cc nL ret own p s m args meth c) (hS : St D A ad S σ s.heap H locs) (hsh : S i = (ci + 10, 0)) (hc : vwCl[ci]? = some (Cn, T, N)) (h1 : Cond.methodLink own idx y ∈ lw_all) (h2 : Cond.instanceMethod y ∈ lw_all) (h3 : Cond.selects Cn y y ∈ lw_all) (h4 : Cond.codeWith y bytes maxL rt hh ∈ lw_all) (hy : y.cls ≠ "java/lang/invoke/MethodHandle" ∧ y.cls ≠ "java/lang/invoke/VarHandle") (hlen : (parseMethodDescriptor y.desc).map (fun d => d.parameters.length) = some n) (hn : As.length = n) (hst : st0 = As.reverse ++ .ref (ad i) :: rest) (hd : decode cc pc = .ok (.invokevirtual idx, 3)) :
    EnS p l e R s m args below meth c H locs cl sl y maxL (Value.ref (ad i) :: As).toArray (F0 m pc ls st0) rest := by
  intro T hT X
  have hts := Z.2.2.2.2.2.2.1
  obtain ⟨cellB, hcB, hoB, hclB⟩ := g_recv Z.2.2.2.2.2 hS hsh hc
  obtain ⟨mk, methM, hnamed, hmethM, hstM, habM⟩ := Cond.instanceMethod_spec (hts _ h2)
  obtain ⟨mk', methM', cM, hnamed', hmethM', hcM, -, hlM, -, -, -, hsigM⟩ := Cond.codeWith_spec (hts _ h4)
  cases hnamed.symm.trans hnamed'
  cases hmethM.symm.trans hmethM'
  obtain ⟨c2, r2, m2, q1, q2, q3, q4, kP, hkP, hkPi⟩ := Cond.selects_spec (hts _ h3)
  cases hclB.symm.trans q1
  cases (State.methodFound?_of_named hnamed hy).symm.trans q2
  cases hnamed.symm.trans q3
  have hselP : selectMethod e.platform s.vm cellB.cls mk = .method mk := by rw [Launch.admits_selectMethod X.admits]; exact q4
  obtain ⟨vm₁, X₁, hstep₁⟩ := X.invokevirtual Z.1 Z.2.2.2.2.2.1 (hts _ h1) hnamed hmethM hstM hkP hkPi hy (a := ad i) (cell := cellB) (by rw [hT]; exact hcB)
    (fun z h => by rw [h] at hoB; cases hoB) hselP hmethM habM hkP hkPi (g := F0 m pc ls st0) rfl (argsL := As) (rest := rest) (by rw [hsigM] at hlen; exact hn.trans (Option.some.inj hlen).symm) hst (by rw [Z.2.1]; exact hd)
  exact ⟨vm₁, mk, methM, cM, X₁, hnamed, hmethM, hcM, hlM, hstep₁⟩
/-- a static call of a method with handlers -/
theorem en_SW {idx maxL n : Nat} {y : MethodName} {bytes : ByteArray} {rt : Option FieldType} {hh : List (Nat × Nat × Nat × Nat)} {As st0 : List Value} (Z : Cz D (Ew D A) A cc nL ret own p s m args meth c) (h1 : Cond.methodLink own idx y ∈ lw_all) (h2 : Cond.static y ∈ lw_all) (h3 : Cond.initialized y.cls ∈ lw_all) (h4 : Cond.codeWith y bytes maxL rt hh ∈ lw_all) (hy : y.cls ≠ "java/lang/invoke/MethodHandle" ∧ y.cls ≠ "java/lang/invoke/VarHandle") (hlen : (parseMethodDescriptor y.desc).map (fun d => d.parameters.length) = some n) (hn : As.length = n) (hst : st0 = As.reverse ++ rest) (hd : decode cc pc = .ok (.invokestatic idx, 3)) :
    EnS p l e R s m args below meth c H locs cl sl y maxL As.toArray (F0 m pc ls st0) rest := by
  intro T hT X
  have hts := Z.2.2.2.2.2.2.1
  obtain ⟨mk, methM, cM, hnamed, hmethM, hcM, -, hlM, -, -, -, hsig⟩ := Cond.codeWith_spec (hts _ h4)
  obtain ⟨kx, hkx, hnx⟩ := className_of_methodNamed hnamed
  obtain ⟨vm₁, X₁, hstep₁⟩ := X.invokestatic Z.1 Z.2.2.2.2.2.1 (hts _ h1) hnamed hmethM (Cond.static_spec hnamed hmethM (hts _ h2)) hkx (Cond.initialized_spec (findClass_of_methodNamed hnamed) hkx (hts _ h3)) hy (g := F0 m pc ls st0) rfl (argsL := As) (rest := rest) (by rw [hsig] at hlen; exact hn.trans (Option.some.inj hlen).symm) hst (by rw [Z.2.1]; exact hd)
  exact ⟨vm₁, mk, methM, cM, X₁, hnamed, hmethM, hcM, hlM, hstep₁⟩
/-- a call of a method that makes objects, out of the law: a throw isn't told -/
theorem a_callL {ρ β : Type} {y : MethodName} {maxL fr lo : Nat} {ws : List Cond} {av st0 : List Value} {o : Option (Rs ρ)} {g : Mem → Shp → ρ → Option β} {v : ρ → (Nat → Nat) → Option Value} {r : β}
    (Z : Cz D (Ew D A) A cc nL ret own p s m args meth c) (hS : St D A ad (sS τ) σ s.heap H locs) (B : Bd c0 s0 R τ cl sl) (hE : EnS p l e R s m args below meth c H locs cl sl y maxL av.toArray (F0 m pc ls st0) rest) (hG : GoodIn lw_all ws)
    (hR : fr + 1 ≤ R.frames ∧ 8 + (maxL + 11) + lo ≤ R.locals) (hsz : ls.size = nL) (hw : (rest.map fun v => v.category).sum ≤ 8) {ig : Instr} (hd : decode cc pc = .ok (ig, 3)) (h : bndL o g = some r)
    (hM : ∀ x, o = some x → Mg l y ws (rmA fr lo τ) (va_Pc av (PreG D (Ew D A) A ad (sS τ) σ)) (QR D A ad τ v x) A)
    (kk : ∀ (σ' : Mem) (τ' : Shp) (x : ρ) (ad' : Nat → Nat) (H1 : Heap) (locs1 : List Loc) (cl' sl' : Nat), Gx τ ad τ' ad' → St D A ad' (sS τ') σ' s.heap H1 locs1 → Bd c0 s0 R τ' cl' sl' → g σ' τ' x = some r → W p l e R s m args below meth c H1 locs1 cl' sl' Q (F0 m (pc + 3) ls ((v x ad').toList ++ rest))) :
    W p l e R s m args below meth c H locs cl sl Q (F0 m pc ls st0) := by
  intro T hT X
  obtain ⟨vm₁, mk, methM, cM, X₁, hnamed, hmethM, hcM, hlM, hstep₁⟩ := hE T hT X
  have hts := Z.2.2.2.2.2.2.1
  have hal : s.vm.Alike vm₁ := X₁.warmed.alike
  obtain ⟨b1, b2, b3, b4, b5, b6⟩ := id B
  cases o with
  | none => cases h
  | some x =>
    obtain ⟨oc, t, L', k, n', ⟨ad', g', hgw, hF, ⟨k1, k2, k3, k4⟩, hm⟩, hL, T', e1, e2, hW', X', hend⟩ := zg_back X₁ (g := { F0 m pc ls st0 with stack := rest }) rfl (hsz.trans Z.2.2.2.2.1.symm) (by show decode c.code pc = _; rw [Z.2.1]; exact hd) (X₁.named hnamed) (by show vm₁.method? mk = some methM; rw [hal.method?]; exact hmethM) hcM (hM x rfl) (fun w hw' => pay_in hts hG w hw' _ _ X₁.warmed) hR.1 (by rw [hlM]; exact Nat.le_trans (Nat.add_le_add_right (Nat.add_le_add_right (lv_room (m := m) (pc := pc) (ls := ls) (rest := rest) hw) _) _) hR.2) (by show cl + (LCl - sC τ) ≤ R.cells; omega) (by show sl + (LSl - sL τ) ≤ R.slots; omega)
      (PreG.blind _ _ _ _ (PreG.at Z.2.2.2.2.2 hS (T.setVm vm₁) hT X₁.warmed))
    have hbd : Bd c0 s0 R (rT x) (cl + k) (sl + n') := ⟨by omega, by omega, b3, b4, k3, k4⟩
    have hst : St D A ad' (sS (rT x)) (rM x) s.heap T'.heap (locs ++ L') := by
      refine ⟨by rw [e1]; exact hgw, ?_⟩
      have h0 : ((T.setVm vm₁).calling { F0 m pc ls st0 with stack := rest } mk av.toArray).heap = H := hT
      obtain ⟨hz, hk⟩ := hF
      rw [h0] at hz hk
      exact ⟨Nat.le_trans hS.2.1 (by rw [e1]; exact hz), fun q h1 h2 => by rw [e1, hk q (Nat.lt_of_lt_of_le h1 hS.2.1) h2]; exact hS.2.2.1 q h1 h2, fun q hq => by
        rcases List.mem_append.mp hq with h | h
        · exact hS.2.2.2 q h
        · exact hL q h⟩
    cases x with
    | inl x =>
      rcases hend with ⟨w, hw1, hst'⟩ | ⟨w, hw1, -⟩
      · cases hw1
        cases hm
        obtain ⟨t2, a1, q1⟩ := kk x.1 x.2.1 x.2.2 ad' T'.heap (locs ++ L') (cl + k) (sl + n') g' hst hbd h T' rfl X'
        exact ⟨t2, hstep₁ _ fun acts => by rw [doInvoke_state]; exact hst'.trans a1, q1⟩
      · cases hw1
        cases hm
    | inr x => cases h
theorem l_ret {v : Int32} (Z : Cz D (Ew D A) A code nL ret own p s m #[.ref b] meth c) (hA : ∀ q, A q → s.heap.size ≤ q) (hret : meth.sig.returnType = CClogHouseLaw_law_r7968_da4876.ret) (hS : St D A ad (sS τ) σ s.heap H locs) (B : Bd 0 0 room_1 τ cl sl) (hd : decode code pc = .ok (.ireturn, 1)) (h : some v = some (1 : Int32)) : W p l e room_1 s m #[.ref b] below meth c H locs cl sl (lw_Z below #[.ref b] s) (F0 m pc ls [.int v]) := by
  cases h
  refine va_forget (fun q hq => hA _ (hS.2.2.2 q hq)) ?_
  obtain ⟨b1, b2, b3, b4, b5, b6⟩ := B
  refine W.widen (k := 1201024) (n := 5493034) (by have : LCl = 1201024 := rfl; omega) (by have : LSl = 5493034 := rfl; omega) ?_
  exact lw_ret Z.1 Z.2.1 hret Z.2.2.2.1 hd
end LR
