/-! ===== the evaluation: sums and conditions of several classes ===== -/
theorem room_mono {s : State} {pl : Platform} {r r' : Room} (hf : r.frames ≤ r'.frames) (hl : r.locals ≤ r'.locals) (hc : r.cells ≤ r'.cells) (hs : r.slots ≤ r'.slots) (h : s.hasRoom pl r' = true) : s.hasRoom pl r = true := by
  simp only [State.hasRoom, Bool.and_eq_true, decide_eq_true_eq] at h ⊢
  obtain ⟨⟨⟨⟨h1, h2, h3, h4, h5, h6⟩, h7⟩, h8⟩, h9⟩ := h
  exact ⟨⟨⟨⟨by omega, by omega, by omega, by omega, by omega, h6⟩, by omega⟩, by omega⟩, h9⟩
theorem Met.roomy {l : Launch} {y : MethodName} {ws : List Cond} {a b a' b' : Nat} {Pc : Array Value → State → Prop} {Qc : Array Value → State → Outcome → State → Prop} {mc ms : Nat} {free : Addr → Prop} (h : Met l y ws (k2_rm a b) Pc Qc mc ms free) (ha : a ≤ a') (hb : b ≤ b') : Met l y ws (k2_rm a' b') Pc Qc mc ms free := by
  intro p e h1 h2 h3 s m args below h4 h5 h6 h7
  obtain ⟨q1, q2, q3, q4, q5, q6, q7, q8⟩ := (Spec.appliesLoose_iff h4).mp h5
  exact h p e h1 h2 h3 s m args below h4 ((Spec.appliesLoose_iff h4).mpr ⟨q1, q2, q3, q4, q5, q6, room_mono (r' := k2_rm a' b') ha hb (Nat.le_refl _) (Nat.le_refl _) q7, q8⟩) h6 h7
def SUMS : List (Nat × Nat) := [(18, 0), (19, 0), (20, 0)]
def CONDS : List (Nat × Nat) := [(22, 0), (17, 0), (16, 0)]
/-- a dispatcher of sums keeps its word at every class -/
def SumC (l : Launch) (D : gD) (A : Nat → Prop) (ad : Nat → Nat) (S : Nat → Nat × Nat) (f : Mem → Nat → Nat → Option Int32) (qf ql : Nat) : Prop := ∀ (σ : Mem) (j L : Nat) (r : Int32), S L = (1, 6) → f σ j L = some r →
  (S j = (18, 0) → Met l yX13_of (ws_ yX13_of cX13_of 4 (some .int)) (k2_rm qf ql) (va_Pc [.ref (ad j), .ref (ad L)] (PreG D (Ew D A) A ad S σ)) (QG D A ad S (some (.int r)) σ) 0 0 A) ∧
  (S j = (19, 0) → Met l yX14_of (ws_ yX14_of cX14_of 2 (some .int)) (k2_rm qf ql) (va_Pc [.ref (ad j), .ref (ad L)] (PreG D (Ew D A) A ad S σ)) (QG D A ad S (some (.int r)) σ) 0 0 A) ∧
  (S j = (20, 0) → Met l yX15_of (ws_ yX15_of cX15_of 2 (some .int)) (k2_rm qf ql) (va_Pc [.ref (ad j), .ref (ad L)] (PreG D (Ew D A) A ad S σ)) (QG D A ad S (some (.int r)) σ) 0 0 A)
def CondC (l : Launch) (D : gD) (A : Nat → Prop) (ad : Nat → Nat) (S : Nat → Nat × Nat) (f : Mem → Nat → Nat → Option Int32) (qf ql : Nat) : Prop := ∀ (σ : Mem) (j L : Nat) (r : Int32), S L = (1, 6) → f σ j L = some r →
  (S j = (22, 0) → Met l yX17_holds (ws_ yX17_holds cX17_holds 4 (some .boolean)) (k2_rm qf ql) (va_Pc [.ref (ad j), .ref (ad L)] (PreG D (Ew D A) A ad S σ)) (QG D A ad S (some (.int r)) σ) 0 0 A) ∧
  (S j = (17, 0) → Met l yX11_holds (ws_ yX11_holds cX11_holds 2 (some .boolean)) (k2_rm qf ql) (va_Pc [.ref (ad j), .ref (ad L)] (PreG D (Ew D A) A ad S σ)) (QG D A ad S (some (.int r)) σ) 0 0 A) ∧
  (S j = (16, 0) → Met l yX10_holds (ws_ yX10_holds cX10_holds 3 (some .boolean)) (k2_rm qf ql) (va_Pc [.ref (ad j), .ref (ad L)] (PreG D (Ew D A) A ad S σ)) (QG D A ad S (some (.int r)) σ) 0 0 A)
def SumV (own : String) (idx : Nat) : Prop :=
  AOK own idx "ClogHouse$Chain" "ClogHouse$Sum" ⟨"ClogHouse$Sum", "of", "([I)I"⟩ yX13_of cX13_of 4 (some .int) 1 ∧ AOK own idx "ClogHouse$Plain" "ClogHouse$Sum" ⟨"ClogHouse$Sum", "of", "([I)I"⟩ yX14_of cX14_of 2 (some .int) 1 ∧ AOK own idx "ClogHouse$Letter" "ClogHouse$Sum" ⟨"ClogHouse$Sum", "of", "([I)I"⟩ yX15_of cX15_of 2 (some .int) 1
def CondV (own : String) (idx : Nat) : Prop :=
  IOK own idx "ClogHouse$Compare" ⟨"ClogHouse$Condition", "holds", "([I)Z"⟩ yX17_holds cX17_holds 4 (some .boolean) 1 ∧ IOK own idx "ClogHouse$Not" ⟨"ClogHouse$Condition", "holds", "([I)Z"⟩ yX11_holds cX11_holds 2 (some .boolean) 1 ∧ IOK own idx "ClogHouse$Several" ⟨"ClogHouse$Condition", "holds", "([I)Z"⟩ yX10_holds cX10_holds 3 (some .boolean) 1
section HE
variable {p : Program} {l : Launch} {e : Env} {R : Room} {s : State} {m : MethodId} {args : Array Value} {below : List Frame} {meth : Method} {c : Code} {H : Heap} {locs : List Loc} {cells slots : Nat} {Q : State → Prop}
variable {cc : ByteArray} {nL : Nat} {ret : Option FieldType} {pc : Nat} {ls : Array Slot} {rest : List Value} {D : gD} {A : Nat → Prop} {ad : Nat → Nat} {S : Nat → Nat × Nat} {σ : Mem} {own : String} {i : Nat} {ρ : Type} {r : ρ}
theorem h_cSum {idx j L qf ql : Nat} {f : Mem → Nat → Nat → Option Int32} {g : Int32 → Option ρ} (Z : Cz D (Ew D A) A cc nL ret own p s m args meth c) (hS : St D A ad S σ s.heap H locs) (hj : S j ∈ SUMS) (hL : S L = (1, 6)) (V : SumV own idx) (hC : SumC l D A ad S f qf ql) (hR : qf + 1 ≤ R.frames ∧ 8 + (4 + 11) + ql ≤ R.locals) (hsz : ls.size = nL) (hw : (rest.map fun v => v.category).sum ≤ 8) (hcl : cells ≤ R.cells) (hsl : slots ≤ R.slots) (hd : decode cc pc = .ok (.invokevirtual idx, 3)) (h : bnd (f σ j L) g = some r)
    (kk : ∀ (x : Int32) (H1 : Heap) (locs1 : List Loc), St D A ad S σ s.heap H1 locs1 → g x = some r → W p l e R s m args below meth c H1 locs1 cells slots Q (F0 m (pc + 3) ls (.int x :: rest))) : W p l e R s m args below meth c H locs cells slots Q (F0 m pc ls (.ref (ad L) :: .ref (ad j) :: rest)) := by
  simp only [SUMS, List.mem_cons, List.not_mem_nil, or_false] at hj
  refine h_ci (a := ([.ref (ad j), .ref (ad L)] : List Value).toArray) (rest := rest) hS h (fun z hz => ?_) kk
  obtain ⟨c1, c2, c3⟩ := hC σ j L z hL hz
  rcases hj with hj | hj | hj
  · exact h_rA (rest := rest) (ci := 8) Z hS hj rfl V.1 (c1 hj) rfl rfl hR rfl hsz rfl hw hcl hsl hd
  · exact h_rA (rest := rest) (ci := 9) Z hS hj rfl V.2.1 (c2 hj) rfl rfl ⟨hR.1, by have := hR.2; show 8 + (2 + 11) + ql ≤ _; omega⟩ rfl hsz rfl hw hcl hsl hd
  · exact h_rA (rest := rest) (ci := 10) Z hS hj rfl V.2.2 (c3 hj) rfl rfl ⟨hR.1, by have := hR.2; show 8 + (2 + 11) + ql ≤ _; omega⟩ rfl hsz rfl hw hcl hsl hd
theorem h_cCond {idx cnt j L qf ql : Nat} {f : Mem → Nat → Nat → Option Int32} {g : Int32 → Option ρ} (Z : Cz D (Ew D A) A cc nL ret own p s m args meth c) (hS : St D A ad S σ s.heap H locs) (hj : S j ∈ CONDS) (hL : S L = (1, 6)) (V : CondV own idx) (hC : CondC l D A ad S f qf ql) (hR : qf + 1 ≤ R.frames ∧ 8 + (4 + 11) + ql ≤ R.locals) (hsz : ls.size = nL) (hw : (rest.map fun v => v.category).sum ≤ 8) (hcl : cells ≤ R.cells) (hsl : slots ≤ R.slots) (hd : decode cc pc = .ok (.invokeinterface idx cnt, 5)) (h : bnd (f σ j L) g = some r)
    (kk : ∀ (x : Int32) (H1 : Heap) (locs1 : List Loc), St D A ad S σ s.heap H1 locs1 → g x = some r → W p l e R s m args below meth c H1 locs1 cells slots Q (F0 m (pc + 5) ls (.int x :: rest))) : W p l e R s m args below meth c H locs cells slots Q (F0 m pc ls (.ref (ad L) :: .ref (ad j) :: rest)) := by
  simp only [CONDS, List.mem_cons, List.not_mem_nil, or_false] at hj
  refine h_ci5 (a := ([.ref (ad j), .ref (ad L)] : List Value).toArray) (rest := rest) hS h (fun z hz => ?_) kk
  obtain ⟨c1, c2, c3⟩ := hC σ j L z hL hz
  rcases hj with hj | hj | hj
  · exact h_rF (rest := rest) (ci := 12) Z hS hj rfl V.1 (c1 hj) rfl rfl hR rfl hsz rfl hw hcl hsl hd
  · exact h_rF (rest := rest) (ci := 7) Z hS hj rfl V.2.1 (c2 hj) rfl rfl ⟨hR.1, by have := hR.2; show 8 + (2 + 11) + ql ≤ _; omega⟩ rfl hsz rfl hw hcl hsl hd
  · exact h_rF (rest := rest) (ci := 6) Z hS hj rfl V.2.2 (c3 hj) rfl rfl ⟨hR.1, by have := hR.2; show 8 + (3 + 11) + ql ≤ _; omega⟩ rfl hsz rfl hw hcl hsl hd
/-- a reference field of several classes, not null -/
theorem h_getM {idx ci k N : Nat} {Cn : String} {T : u_T} {ty : Nat → FieldType} {f : Nat → Option ρ} (Z : Cz D (Ew D A) A cc nL ret own p s m args meth c) (hS : St D A ad S σ s.heap H locs) (K : CLS ci Cn T N ty) (hsh : S i = (ci + 10, 0)) (hk : k < N) (hf : fk ci k = 1) (hl : FLk own idx T k) (hd : decode cc pc = .ok (.getfield idx, 3)) (h : getN σ i k f = some r)
    (kk : ∀ j : Nat, S j ∈ okL ci k → f j = some r → W p l e R s m args below meth c H locs cells slots Q (F0 m (pc + 3) ls (.ref (ad j) :: rest))) : W p l e R s m args below meth c H locs cells slots Q (F0 m pc ls (.ref (ad i) :: rest)) := by
  obtain ⟨j, hj, h⟩ := bnd_el h
  exact h_get Z hS K hsh (gC_o hsh) hk (by unfold gV; rw [hf]; show va_rf ((mR σ i k).map ad) = _; rw [hj]; rfl) hl hd (kk j ((hS.1.2.2.2.1 i ci hsh k).1 hf j hj) h)
/-- locals that may be null -/
theorem h_aldq_n {o : Option Nat} {k : Fin 4} {i : Nat} (Z : Cz D (Ew D A) A cc nL ret own p s m args meth c) (hd : decode cc pc = .ok (.aload_n k, 1)) (hi : (k : Nat) = i) (hl : ls[i]? = some (.val (va_rf (o.map ad))))
    (kk : W p l e R s m args below meth c H locs cells slots Q (F0 m (pc + 1) ls (va_rf (o.map ad) :: rest))) : W p l e R s m args below meth c H locs cells slots Q (F0 m pc ls rest) := by
  cases o with
  | none => exact lv_aload_nN Z.1 Z.2.1 hd hi hl kk
  | some j => exact lv_aload_n Z.1 Z.2.1 hd hi hl kk
theorem h_astq_n {o : Option Nat} {k : Fin 4} {i : Nat} {lv lv' : List (Nat × Value)} (Z : Cz D (Ew D A) A cc nL ret own p s m args meth c) (hd : decode cc pc = .ok (.astore_n k, 1)) (hi : (k : Nat) = i) (hl : lv_has ls nL lv) (hn : i < nL) (he : (i, va_rf (o.map ad)) :: lv.filter (fun q => !(q.1 == i) && !(q.1 + 1 == i && q.2.category == 2)) = lv')
    (kk : ∀ ls' : Array Slot, lv_has ls' nL lv' → W p l e R s m args below meth c H locs cells slots Q (F0 m (pc + 1) ls' rest)) : W p l e R s m args below meth c H locs cells slots Q (F0 m pc ls (va_rf (o.map ad) :: rest)) := by
  cases o with
  | none => exact lv_astore_nN Z.1 Z.2.1 hd hi hl hn he kk
  | some j => exact lv_astore_n Z.1 Z.2.1 hd hi hl hn he kk
end HE
