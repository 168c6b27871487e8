/-! ===== contracts of the general form over the store; a call that lands in a default method ===== -/
def QG0 (D : gD) (A : Nat → Prop) (ad : Nat → Nat) (S : Nat → Nat × Nat) (v : Option Value) (σ' : Mem) : Array Value → State → Outcome → State → Nat → Nat → Prop := fun a st o t k n => QG D A ad S v σ' a st o t ∧ k = 0 ∧ n = 0
theorem W.mono {p : Program} {l : Launch} {e : Env} {R : Room} {s : State} {m : MethodId} {args : Array Value} {below : List Frame} {meth : Method} {c : Code} {H : Heap} {locs : List Loc} {cells slots : Nat} {Q Q' : State → Prop} {g : JFrame} (h : W p l e R s m args below meth c H locs cells slots Q g) (hq : ∀ t, Q t → Q' t) : W p l e R s m args below meth c H locs cells slots Q' g := fun T hT X => by
  obtain ⟨t, a, b⟩ := h T hT X
  exact ⟨t, a, hq t b⟩
theorem y_metG {l : Launch} {D : gD} {E : State → Prop} {A : Nat → Prop} {ad : Nat → Nat} {S : Nat → Nat × Nat} {σ σ' : Mem} {y : MethodName} {cc : ByteArray} {maxL : Nat} {ret : Option FieldType} {rm : Room} {av : List Value} {v : Option Value} (hy : plainName y.cls = true) (hlen : (lg_sl av).length ≤ maxL)
    (body : ∀ (p : Program) (e : Env) (s : State) (m : MethodId) (below : List Frame) (meth : Method) (c : Code) (ls : Array Slot), Cz D E A cc maxL ret y.cls p s m av.toArray meth c → St D A ad S σ s.heap s.heap [] → lv_has ls maxL (lv_args 0 av) → W p l e rm s m av.toArray below meth c s.heap [] 0 0 (MQ below (QG D A ad S v σ') av.toArray s 0 0 A) (F0 m 0 ls [])) :
    Mg l y (ws_ y cc maxL ret) rm (va_Pc av (PreG D E A ad S σ)) (QG0 D A ad S v σ') A := by
  refine Mg.ofW (cc := cc) (maxL := maxL) (ret := ret) (hh := []) hy his_code ?_
  intro p e s m args below meth c hx hb hr hlk hml hown hnm hex hws hv
  obtain ⟨rfl, hw, hK, hA⟩ := hv
  have hl := lv_entry av (n := maxL) hlen
  rw [lg_entry_eq]
  refine W.mono (body p e s m below meth c _ ⟨hx, hb, hr, hlk, hml, hown, fun w h => hws w (List.mem_cons_of_mem _ h), hK, hA⟩ ⟨hw, va_S.rf⟩ hl) ?_
  rintro t ⟨o, h1, h2, h3, L, ⟨-, h4, h5⟩, h6⟩
  exact ⟨o, L, 0, 0, h1, h2, ⟨h3, rfl, rfl⟩, h4, h5, h6⟩
/-- what a call into a default method asks -/
def DOK (own : String) (idx : Nat) (C : String) (x y : MethodName) (bytes : ByteArray) (maxL : Nat) (rt : Option FieldType) (n : Nat) : Prop :=
  Cond.methodLink own idx x ∈ ewL ∧ Cond.sameMethod x.cls y.cls x.name x.desc ∈ ewL ∧ Cond.landsInDefault C x y ∈ ewL ∧ Cond.instanceMethod y ∈ lw_all ∧ Cond.code y bytes maxL rt ∈ lw_all ∧ y = ⟨y.cls, x.name, x.desc⟩ ∧ y.cls ≠ "java/lang/invoke/MethodHandle" ∧ y.cls ≠ "java/lang/invoke/VarHandle" ∧ (parseMethodDescriptor y.desc).map (fun d => d.parameters.length) = some n
section HD
variable {p : Program} {l : Launch} {e : Env} {R : Room} {s : State} {m : MethodId} {args : Array Value} {below : List Frame} {meth : Method} {c : Code} {H : Heap} {locs : List Loc} {cells slots : Nat} {Q : State → Prop}
variable {cc : ByteArray} {nL : Nat} {ret : Option FieldType} {pc : Nat} {ls : Array Slot} {rest : List Value} {D : gD} {A : Nat → Prop} {ad : Nat → Nat} {S : Nat → Nat × Nat} {σ : Mem} {own : String} {i : Nat} {ρ : Type} {r : ρ}
theorem h_rD {ci N idx maxL n : Nat} {Cn : String} {T : u_T} {x y : MethodName} {bytes : ByteArray} {rt : Option FieldType} {rm : Room} {As st0 : List Value} {v : Option Value} {σ' : Mem} (Z : Cz D (Ew D A) A cc nL ret own p s m args meth c) (hS : St D A ad S σ s.heap H locs) (hsh : S i = (ci + 10, 0)) (hc : vwCl[ci]? = some (Cn, T, N)) (V : DOK own idx Cn x y bytes maxL rt n)
    (hM : Mg l y (ws_ y bytes maxL rt) rm (va_Pc (.ref (ad i) :: As) (PreG D (Ew D A) A ad S σ)) (QG0 D A ad S v σ') A) (hrc : rm.cells = 0) (hrs : rm.slots = 0) (hR : rm.frames + 1 ≤ R.frames ∧ 8 + (maxL + 11) + rm.locals ≤ R.locals) (hn : As.length = n) (hsz : ls.size = nL) (hst : st0 = As.reverse ++ .ref (ad i) :: rest) (hw : (rest.map fun v => v.category).sum ≤ 8) (hcl : cells ≤ R.cells) (hsl : slots ≤ R.slots) (hd : decode cc pc = .ok (.invokevirtual idx, 3)) :
    va_Run p l e R s m args below meth c H locs cells slots 0 0 (F0 m pc ls st0) rest (QG D A ad S v σ' (Value.ref (ad i) :: As).toArray) A := by
  obtain ⟨v1, v2, v3, v4, v6, v7, v8, v9, v10⟩ := V
  have hts := Z.2.2.2.2.2.2.1
  have hE := Z.2.2.2.2.2.2.2.1.now.1
  have hG : GoodIn lw_all (ws_ y bytes maxL rt) := lw_meth v6
  obtain ⟨cellB, hcB, hoB, hclB⟩ := g_recv Z.2.2.2.2.2 hS hsh hc
  intro T hT X
  obtain ⟨mk, methM, hnamed, hmethM, hstM, habM⟩ := Cond.instanceMethod_spec (hts _ v4)
  obtain ⟨methM', cM, hmethM', hcM, -, hlM, -, -, -, hsigM⟩ := Cond.code_spec hnamed (hts _ v6)
  cases hmethM.symm.trans hmethM'
  obtain ⟨c2, r2, m2, rm', q1, q2, q3, q5, q4, ⟨kP, hkP, hkPi⟩, hnear⟩ := zd_land (hE _ v3)
  cases hclB.symm.trans q1
  cases hnamed.symm.trans q3
  have hsame : (Cond.sameMethod x.cls y.cls x.name x.desc).before args s = true := va_Nw.use rfl (hE _ v2)
  obtain ⟨cn, ck, r1, hcn, hck, hni, hf, hn1⟩ := Cond.sameMethod_found hsame
  rw [← v7] at hn1
  cases hnamed.symm.trans hn1
  cases hf.symm.trans q2
  cases hmethM.symm.trans q5
  have hlen : As.length = methM.sig.parameters.length := by rw [hsigM] at v10; exact hn.trans (Option.some.inj v10).symm
  have hselP : selectMethod e.platform s.vm cellB.cls mk = .method mk := by rw [Launch.admits_selectMethod X.admits]; exact q4
  obtain ⟨vm₁, X₁, hstep₁⟩ := zd_inv X Z.1 Z.2.2.2.2.2.1 (va_Nw.use rfl (hE _ v1)) hsame ⟨v8, v9⟩ (by rw [← v7]; exact hnamed) hmethM hstM (by rw [hT]; exact hcB) (fun z h => by rw [h] at hoB; cases hoB) hselP hmethM habM hkP hkPi hnear (g := F0 m pc ls st0) rfl (argsL := As) (rest := rest) hlen hst (by rw [Z.2.1]; exact hd)
  have hal : s.vm.Alike vm₁ := X₁.warmed.alike
  obtain ⟨o, t, L, k, n', hq, hL, T', e1, e2, hW', X', hend⟩ := zg_back X₁ (g := { F0 m pc ls st0 with stack := rest }) rfl (hsz.trans Z.2.2.2.2.1.symm) (by show decode c.code pc = _; rw [Z.2.1]; exact hd) (X₁.named hnamed) (by show vm₁.method? mk = some methM; rw [hal.method?]; exact hmethM) hcM hM (fun w hw' => pay_in hts hG w hw' _ _ X₁.warmed) hR.1 (by rw [hlM]; exact Nat.le_trans (Nat.add_le_add_right (Nat.add_le_add_right (lv_room (m := m) (pc := pc) (ls := ls) (rest := rest) hw) _) _) hR.2) (by rw [hrc]; exact hcl) (by rw [hrs]; exact hsl)
    (PreG.blind _ _ _ _ (PreG.at Z.2.2.2.2.2 hS (T.setVm vm₁) hT X₁.warmed))
  obtain ⟨hq, rfl, rfl⟩ := hq
  rcases hend with ⟨w, rfl, hst'⟩ | ⟨w, rfl, -⟩
  · exact ⟨w, _, t, T', L, hT, X', hL, e1, e2, hq, fun target h => hstep₁ _ fun acts => by rw [doInvoke_state]; exact hst'.trans h⟩
  · exact absurd hq.1 (by intro h; cases h)
end HD
