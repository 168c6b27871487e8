set_option maxRecDepth 100000
theorem dX9_init_0 : decode cX9_init 0 = .ok (.aload_n 0, 1) := by decide +kernel
theorem dX9_init_1 : decode cX9_init 1 = .ok (.aconst_null, 1) := by decide +kernel
theorem dX9_init_2 : decode cX9_init 2 = .ok (.aconst_null, 1) := by decide +kernel
theorem dX9_init_3 : decode cX9_init 3 = .ok (.iconst 0, 1) := by decide +kernel
theorem dX9_init_4 : decode cX9_init 4 = .ok (.iconst 0, 1) := by decide +kernel
theorem dX9_init_5 : decode cX9_init 5 = .ok (.invokespecial 1, 3) := by decide +kernel
theorem dX9_init_8 : decode cX9_init 8 = .ok (.aload_n 0, 1) := by decide +kernel
theorem dX9_init_9 : decode cX9_init 9 = .ok (.iload_n 1, 1) := by decide +kernel
theorem dX9_init_10 : decode cX9_init 10 = .ok (.putfield 7, 3) := by decide +kernel
theorem dX9_init_13 : decode cX9_init 13 = .ok (.return_, 1) := by decide +kernel
theorem dJ8_init_0 : decode cJ8_init 0 = .ok (.aload_n 0, 1) := by decide +kernel
theorem dJ8_init_1 : decode cJ8_init 1 = .ok (.aload_n 1, 1) := by decide +kernel
theorem dJ8_init_2 : decode cJ8_init 2 = .ok (.aload_n 2, 1) := by decide +kernel
theorem dJ8_init_3 : decode cJ8_init 3 = .ok (.iload_n 3, 1) := by decide +kernel
theorem dJ8_init_4 : decode cJ8_init 4 = .ok (.iload 4, 2) := by decide +kernel
theorem dJ8_init_6 : decode cJ8_init 6 = .ok (.invokespecial 16, 3) := by decide +kernel
theorem dJ8_init_9 : decode cJ8_init 9 = .ok (.return_, 1) := by decide +kernel
theorem dJ7_init_0 : decode cJ7_init 0 = .ok (.aload_n 0, 1) := by decide +kernel
theorem dJ7_init_1 : decode cJ7_init 1 = .ok (.aload_n 1, 1) := by decide +kernel
theorem dJ7_init_2 : decode cJ7_init 2 = .ok (.aload_n 2, 1) := by decide +kernel
theorem dJ7_init_3 : decode cJ7_init 3 = .ok (.iload_n 3, 1) := by decide +kernel
theorem dJ7_init_4 : decode cJ7_init 4 = .ok (.iload 4, 2) := by decide +kernel
theorem dJ7_init_6 : decode cJ7_init 6 = .ok (.invokespecial 16, 3) := by decide +kernel
theorem dJ7_init_9 : decode cJ7_init 9 = .ok (.return_, 1) := by decide +kernel
theorem dJ6_init_2_0 : decode cJ6_init_2 0 = .ok (.aload_n 0, 1) := by decide +kernel
theorem dJ6_init_2_1 : decode cJ6_init_2 1 = .ok (.invokespecial 1, 3) := by decide +kernel
theorem dJ6_init_2_4 : decode cJ6_init_2 4 = .ok (.aload_n 0, 1) := by decide +kernel
theorem dJ6_init_2_5 : decode cJ6_init_2 5 = .ok (.aload_n 0, 1) := by decide +kernel
theorem dJ6_init_2_6 : decode cJ6_init_2 6 = .ok (.putfield 7, 3) := by decide +kernel
theorem dJ6_init_2_9 : decode cJ6_init_2 9 = .ok (.aload_n 0, 1) := by decide +kernel
theorem dJ6_init_2_10 : decode cJ6_init_2 10 = .ok (.getstatic 13, 3) := by decide +kernel
theorem dJ6_init_2_13 : decode cJ6_init_2 13 = .ok (.putfield 17, 3) := by decide +kernel
theorem dJ6_init_2_16 : decode cJ6_init_2 16 = .ok (.aload_n 0, 1) := by decide +kernel
theorem dJ6_init_2_17 : decode cJ6_init_2 17 = .ok (.getstatic 20, 3) := by decide +kernel
theorem dJ6_init_2_20 : decode cJ6_init_2 20 = .ok (.putfield 24, 3) := by decide +kernel
theorem dJ6_init_2_23 : decode cJ6_init_2 23 = .ok (.iload 4, 2) := by decide +kernel
theorem dJ6_init_2_25 : decode cJ6_init_2 25 = .ok (.ifCond .eq 11, 3) := by decide +kernel
theorem dJ6_init_2_28 : decode cJ6_init_2 28 = .ok (.aload_n 0, 1) := by decide +kernel
theorem dJ6_init_2_29 : decode cJ6_init_2 29 = .ok (.invokevirtual 27, 3) := by decide +kernel
theorem dJ6_init_2_32 : decode cJ6_init_2 32 = .ok (.pop, 1) := by decide +kernel
theorem dJ6_init_2_33 : decode cJ6_init_2 33 = .ok (.goto 8, 3) := by decide +kernel
theorem dJ6_init_2_36 : decode cJ6_init_2 36 = .ok (.aload_n 0, 1) := by decide +kernel
theorem dJ6_init_2_37 : decode cJ6_init_2 37 = .ok (.aconst_null, 1) := by decide +kernel
theorem dJ6_init_2_38 : decode cJ6_init_2 38 = .ok (.putfield 17, 3) := by decide +kernel
theorem dJ6_init_2_41 : decode cJ6_init_2 41 = .ok (.aload_n 0, 1) := by decide +kernel
theorem dJ6_init_2_42 : decode cJ6_init_2 42 = .ok (.aload_n 1, 1) := by decide +kernel
theorem dJ6_init_2_43 : decode cJ6_init_2 43 = .ok (.putfield 31, 3) := by decide +kernel
theorem dJ6_init_2_46 : decode cJ6_init_2 46 = .ok (.aload_n 0, 1) := by decide +kernel
theorem dJ6_init_2_47 : decode cJ6_init_2 47 = .ok (.aload_n 2, 1) := by decide +kernel
theorem dJ6_init_2_48 : decode cJ6_init_2 48 = .ok (.putfield 7, 3) := by decide +kernel
theorem dJ6_init_2_51 : decode cJ6_init_2 51 = .ok (.iload_n 3, 1) := by decide +kernel
theorem dJ6_init_2_52 : decode cJ6_init_2 52 = .ok (.ifCond .ne 8, 3) := by decide +kernel
theorem dJ6_init_2_55 : decode cJ6_init_2 55 = .ok (.aload_n 0, 1) := by decide +kernel
theorem dJ6_init_2_56 : decode cJ6_init_2 56 = .ok (.aconst_null, 1) := by decide +kernel
theorem dJ6_init_2_57 : decode cJ6_init_2 57 = .ok (.putfield 24, 3) := by decide +kernel
theorem dJ6_init_2_60 : decode cJ6_init_2 60 = .ok (.return_, 1) := by decide +kernel
theorem dW_take_4 : decode cX8_take 4 = .ok (.new 22, 3) := by decide +kernel
theorem dW_take_7 : decode cX8_take 7 = .ok (.dup, 1) := by decide +kernel
theorem dW_take_8 : decode cX8_take 8 = .ok (.aload_n 0, 1) := by decide +kernel
theorem dW_take_9 : decode cX8_take 9 = .ok (.getfield 19, 3) := by decide +kernel
theorem dW_take_12 : decode cX8_take 12 = .ok (.invokespecial 24, 3) := by decide +kernel
theorem dW_take_15 : decode cX8_take 15 = .ok (.athrow, 1) := by decide +kernel
theorem vW_24 : IOKi RX8 24 yX9_init cX9_init 2 1 := ⟨Or.inl q669, q670, q671, q93, rfl, by decide, by decide, by decide +kernel⟩
theorem vX9_1 : IOKi RX9 1 yJ8_init cJ8_init 5 4 := ⟨Or.inl q672, q673, q674, q92, rfl, by decide, by decide, by decide +kernel⟩
theorem vJ8_16 : IOKi RJ8 16 yJ7_init cJ7_init 5 4 := ⟨Or.inl q675, q676, q677, q91, rfl, by decide, by decide, by decide +kernel⟩
theorem vJ7_16 : IOKi RJ7 16 yJ6_init_2 cJ6_init_2 5 4 := ⟨Or.inl q678, q679, q680, q90, rfl, by decide, by decide, by decide +kernel⟩
/-! ===== the throw of Wrong ===== -/
def thrW {ρ : Type} (σ : Mem) (τ : Shp) (x : Int32) : Option (Rs ρ) := gd (decide (sC τ + 1 ≤ LCl)) (gd (decide (sL τ + 7 ≤ LSl)) (some (.inr (σ, (τ.1, τ.2.1, τ.2.2.1 + 1, τ.2.2.2 + 7), x))))
/-- an object beside the store, at the address a -/
def OB (D : gD) (A : Nat → Prop) (ad : Nat → Nat) (S : Nat → Nat × Nat) (ci N a : Nat) (H : Heap) (f : Nat → Value) : Prop := t_OB a (D.1.1 ci) N (D.1.2 ci) H f ∧ A a ∧ ∀ i, (S i).1 ≠ 0 → ad i ≠ a
def PreO (D : gD) (A : Nat → Prop) (ad : Nat → Nat) (S : Nat → Nat × Nat) (σ : Mem) (ci N a : Nat) (U : State) : Prop := PreG D (Ew D A) A ad S σ U ∧ ∃ f, OB D A ad S ci N a U.heap f
def QO (D : gD) (A : Nat → Prop) (ad : Nat → Nat) (S : Nat → Nat × Nat) (σ : Mem) (ci N a : Nat) (P : (Nat → Value) → Prop) : Array Value → State → Outcome → State → Nat → Nat → Prop := fun _ st o t k n => k = 0 ∧ n = 0 ∧ o = .returned none ∧ gW D A ad S σ t.heap ∧ va_F A st t ∧ ∃ f, OB D A ad S ci N a t.heap f ∧ P f
theorem gW_off {D : gD} {A : Nat → Prop} {ad : Nat → Nat} {S : Nat → Nat × Nat} {σ : Mem} {H H1 : Heap} {a : Nat} (h : gW D A ad S σ H) (hq : ∀ q, q ≠ a → H1[q]? = H[q]?) (ha : ∀ i, (S i).1 ≠ 0 → ad i ≠ a) : gW D A ad S σ H1 :=
  ⟨fun i e he => (h.1 i e he).kept (hq _ (ha i (gC_live he))), h.2⟩
section WR
variable {p : Program} {l : Launch} {e : Env} {R : Room} {s : State} {m : MethodId} {args : Array Value} {below : List Frame} {meth : Method} {c : Code} {H : Heap} {locs : List Loc} {cl sl c0 s0 : Nat} {Q : State → Prop}
variable {cc : ByteArray} {nL : Nat} {ret : Option FieldType} {pc : Nat} {ls : Array Slot} {rest : List Value} {D : gD} {A : Nat → Prop} {ad : Nat → Nat} {S : Nat → Nat × Nat} {τ : Shp} {σ : Mem} {own : String} {i ci N a : Nat} {P : (Nat → Value) → Prop} {f : Nat → Value}
theorem o_put {idx k : Nat} {Cn : String} {T : u_T} {ty : Nat → FieldType} {v : Value} {ft : FieldType} (Z : Cz D (Ew D A) A cc nL ret own p s m args meth c) (hS : St D A ad S σ s.heap H locs) (hO : OB D A ad S ci N a H f) (K : CLS ci Cn T N ty) (hk : k < N) (hfin : (T k).2.2.2 = false) (hty : ty k = ft) (hn : narrow ft v = v) (hfit : fits ft v = true)
    (hl : Cond.fieldLink own idx (T k).1 (T k).2.1 (T k).2.2.1 ∈ lw_all) (hd : decode cc pc = .ok (.putfield idx, 3))
    (kk : ∀ (H1 : Heap) (locs1 : List Loc), St D A ad S σ s.heap H1 locs1 → OB D A ad S ci N a H1 (updV f k v) → W p l e R s m args below meth c H1 locs1 cl sl Q (F0 m (pc + 3) ls rest)) : W p l e R s m args below meth c H locs cl sl Q (F0 m pc ls (v :: .ref a :: rest)) := by
  obtain ⟨hx, hb, -, -, -, hown, hts, hK, -⟩ := Z
  have hap := va_apart (own := own) hts K.2.1 ty K.2.2.1 K.2.2.2 hK.1 K.1
  obtain ⟨⟨cell, q1, q2, q3, q4⟩, hA, hne⟩ := hO
  obtain ⟨hSl, hfc, kC, hkC, hkind⟩ := hK.1.1 ci _ K.1
  obtain ⟨cf, kf, fi, fd, hi, hsl⟩ := hSl k hk
  have hlay := hts _ (K.2.1 _ (u_in_lay hk))
  unfold u_lay at hlay
  rw [if_neg (by rw [hfin]; decide)] at hlay
  have hst := (u_facts hfc hkC (u_lays hts K.2.1 hk) hi).1
  have h6 := u_store hfc hkC hkind hlay hi ((K.2.2.1 k hk).trans (congrArg some hty)) hn hfit
  refine W.putK hx hb (f := fd) ⟨hown, hts _ hl, ⟨_, _, _, hi⟩, hst⟩ (by rw [q2]; exact h6) q1 q3 (by rw [hsl]; exact k2_hasslot (q4 k hk)) rfl rfl hd fun H' e1 e2 e3 => ?_
  rw [hsl] at e1 ⊢
  exact kk H' _ ⟨gW_off hS.1 e3 hne, hS.2.put e2 e3 hA⟩ ⟨⟨_, e1, q2, q3, t_set q4 hap hk v⟩, hA, hne⟩
theorem o_putF {idx k : Nat} {Cn : String} {T : u_T} {ty : Nat → FieldType} {v : Value} {ft : FieldType} (Z : Cz D (Ew D A) A cc nL ret own p s m args meth c) (hnm : meth.name = "<init>") (hS : St D A ad S σ s.heap H locs) (hO : OB D A ad S ci N a H f) (K : CLS ci Cn T N ty) (hk : k < N) (hfin : (T k).2.2.2 = true) (hdecl : (T k).1 = own) (hty : ty k = ft) (hn : narrow ft v = v) (hfit : fits ft v = true)
    (hl : Cond.fieldLink own idx (T k).1 (T k).2.1 (T k).2.2.1 ∈ lw_all) (hd : decode cc pc = .ok (.putfield idx, 3))
    (kk : ∀ (H1 : Heap) (locs1 : List Loc), St D A ad S σ s.heap H1 locs1 → OB D A ad S ci N a H1 (updV f k v) → W p l e R s m args below meth c H1 locs1 cl sl Q (F0 m (pc + 3) ls rest)) : W p l e R s m args below meth c H locs cl sl Q (F0 m pc ls (v :: .ref a :: rest)) := by
  obtain ⟨hx, hb, -, -, -, hown, hts, hK, -⟩ := Z
  have hap := va_apart (own := own) hts K.2.1 ty K.2.2.1 K.2.2.2 hK.1 K.1
  obtain ⟨⟨cell, q1, q2, q3, q4⟩, hA, hne⟩ := hO
  obtain ⟨hSl, hfc, kC, hkC, hkind⟩ := hK.1.1 ci _ K.1
  obtain ⟨cf, kf, fi, fd, hi, hsl⟩ := hSl k hk
  have hlay := hts _ (K.2.1 _ (u_in_lay hk))
  unfold u_lay at hlay
  rw [if_pos hfin] at hlay
  have hst := (u_facts hfc hkC (u_lays hts K.2.1 hk) hi).1
  have hcf : m.cls = cf := by
    obtain ⟨_, _, c', _, _, _, -, -, hf', -, -, -, hown2, -⟩ := Cond.laysFinal_spec hlay
    have e1 : c' = cf := by have := hi.symm.trans hf'; simp at this; exact this.1.symm
    rw [hdecl] at hown2
    rw [← e1]; exact Option.some.inj (hown.symm.trans hown2)
  have h6 := u_fits hfc hkC hkind (Or.inr hlay) hi ((K.2.2.1 k hk).trans (congrArg some hty)) hn hfit
  refine W.putFinK hx hb hown (hts _ hl) hi hst hcf hnm (by rw [q2]; exact h6) q1 q3 (by rw [hsl]; exact k2_hasslot (q4 k hk)) rfl rfl hd fun H' e1 e2 e3 => ?_
  rw [hsl] at e1 ⊢
  exact kk H' _ ⟨gW_off hS.1 e3 hne, hS.2.put e2 e3 hA⟩ ⟨⟨_, e1, q2, q3, t_set q4 hap hk v⟩, hA, hne⟩
theorem o_met {y : MethodName} {maxL : Nat} {rm : Room} {av : List Value} (hy : plainName y.cls = true) (hlen : (lg_sl av).length ≤ maxL)
    (body : ∀ (p : Program) (e : Env) (s : State) (m : MethodId) (args : Array Value) (below : List Frame) (meth : Method) (c : Code) (ls : Array Slot) (f : Nat → Value), Cz D (Ew D A) A cc maxL ret y.cls p s m args meth c → meth.name = y.name → St D A ad S σ s.heap s.heap [] → OB D A ad S ci N a s.heap f → lv_has ls maxL (lv_args 0 av) → W p l e rm s m args below meth c s.heap [] 0 0 (GQ below (QO D A ad S σ ci N a P) args s A) (F0 m 0 ls [])) :
    Mg l y (ws_ y cc maxL ret) rm (va_Pc av (PreO D A ad S σ ci N a)) (QO D A ad S σ ci N a P) A := by
  refine Mg.ofW (cc := cc) (maxL := maxL) (ret := ret) (hh := []) hy his_code ?_
  intro p e s m args below meth c hx hb hr hlk hml hown hnm hex hws hv
  obtain ⟨rfl, ⟨hw, hK, hA⟩, f, hO⟩ := hv
  have hl := lv_entry av (n := maxL) hlen
  rw [lg_entry_eq]
  exact body p e s m av.toArray below meth c _ f ⟨hx, hb, hr, hlk, hml, hown, fun w h => hws w (List.mem_cons_of_mem _ h), hK, hA⟩ hnm ⟨hw, va_S.rf⟩ hO hl
theorem o_call {y : MethodName} {bytes : ByteArray} {maxL : Nat} {rt : Option FieldType} {rm : Room} {av st0 : List Value} (Z : Cz D (Ew D A) A cc nL ret own p s m args meth c) (hS : St D A ad S σ s.heap H locs) (hO : OB D A ad S ci N a H f) (hE : EnS p l e R s m args below meth c H locs cl sl y maxL av.toArray (F0 m pc ls st0) rest) (hcw : Cond.code y bytes maxL rt ∈ lw_all)
    (hrc : rm.cells = 0) (hrs : rm.slots = 0) (hR : rm.frames + 1 ≤ R.frames ∧ 8 + (maxL + 11) + rm.locals ≤ R.locals) (hcl : cl ≤ R.cells) (hsl : sl ≤ R.slots) (hsz : ls.size = nL) (hw : (rest.map fun v => v.category).sum ≤ 8) {ig : Instr} (hd : decode cc pc = .ok (ig, 3))
    (hM : Mg l y (ws_ y bytes maxL rt) rm (va_Pc av (PreO D A ad S σ ci N a)) (QO D A ad S σ ci N a P) A)
    (kk : ∀ (H1 : Heap) (locs1 : List Loc) (f1 : Nat → Value), St D A ad S σ s.heap H1 locs1 → OB D A ad S ci N a H1 f1 → P f1 → W p l e R s m args below meth c H1 locs1 cl sl Q (F0 m (pc + 3) ls rest)) : W p l e R s m args below meth c H locs cl sl Q (F0 m pc ls st0) := by
  intro T hT X
  obtain ⟨vm₁, mk, methM, cM, X₁, hnamed, hmethM, hcM, hlM, hstep₁⟩ := hE T hT X
  have hts := Z.2.2.2.2.2.2.1
  have hal : s.vm.Alike vm₁ := X₁.warmed.alike
  have hG : GoodIn lw_all (ws_ y bytes maxL rt) := lw_meth hcw
  have hp : va_Pc av (PreO D A ad S σ ci N a) av.toArray ((T.setVm vm₁).calling { F0 m pc ls st0 with stack := rest } mk av.toArray) := by
    have h0 := PreG.blind _ _ { F0 m pc ls st0 with stack := rest } mk (PreG.at (av := av) Z.2.2.2.2.2 hS (T.setVm vm₁) hT X₁.warmed)
    exact ⟨h0.1, h0.2, f, by show OB D A ad S ci N a T.heap f; rw [hT]; exact hO⟩
  obtain ⟨oc, t, L, k, n', ⟨rfl, rfl, ho, hgw, hF, f1, hO1, hP1⟩, hL, T', e1, e2, hW', X', hend⟩ := zg_back X₁ (g := { F0 m pc ls st0 with stack := rest }) rfl (hsz.trans Z.2.2.2.2.1.symm) (by show decode c.code pc = _; rw [Z.2.1]; exact hd) (X₁.named hnamed) (by show vm₁.method? mk = some methM; rw [hal.method?]; exact hmethM) hcM hM (fun w hw' => pay_in hts hG w hw' _ _ X₁.warmed) hR.1 (by rw [hlM]; exact Nat.le_trans (Nat.add_le_add_right (Nat.add_le_add_right (lv_room (m := m) (pc := pc) (ls := ls) (rest := rest) hw) _) _) hR.2) (by rw [hrc]; exact hcl) (by rw [hrs]; exact hsl) hp
  have hst : St D A ad S σ s.heap T'.heap (locs ++ L) := by
    refine ⟨by rw [e1]; exact hgw, ?_⟩
    have h0 : ((T.setVm vm₁).calling { F0 m pc ls st0 with stack := rest } mk av.toArray).heap = H := hT
    obtain ⟨hz, hk⟩ := hF
    rw [h0] at hz hk
    exact ⟨Nat.le_trans hS.2.1 (by rw [e1]; exact hz), fun q h1 h2 => by rw [e1, hk q (Nat.lt_of_lt_of_le h1 hS.2.1) h2]; exact hS.2.2.1 q h1 h2, fun q hq => by
      rcases List.mem_append.mp hq with h | h
      · exact hS.2.2.2 q h
      · exact hL q h⟩
  rcases hend with ⟨w, hw1, hst'⟩ | ⟨w, hw1, -⟩
  · cases ho.symm.trans hw1
    obtain ⟨t2, a1, q1⟩ := kk T'.heap (locs ++ L) f1 hst (by rw [e1]; exact hO1) hP1 T' rfl X'
    exact ⟨t2, hstep₁ _ fun acts => by rw [doInvoke_state]; exact hst'.trans a1, q1⟩
  · cases ho.symm.trans hw1
theorem o_vret (Z : Cz D (Ew D A) A cc nL none own p s m args meth c) (hS : St D A ad S σ s.heap H locs) (hO : OB D A ad S ci N a H f) (hP : P f) (hd : decode cc pc = .ok (.return_, 1)) : W p l e R s m args below meth c H locs 0 0 (GQ below (QO D A ad S σ ci N a P) args s A) (F0 m pc ls []) :=
  a_of (W.vret Z.1 Z.2.1 Z.2.2.1 (fun t ht _ => ⟨rfl, rfl, rfl, by rw [ht]; exact hS.1, hS.2.F ht, f, by rw [ht]; exact hO, hP⟩) hS.2.2.2 hd Z.2.2.2.1)
theorem zq_rf {C n d : String} {V : State} {H : Heap} (h : va_Zq C n d A V H) : ∃ o : Option Nat, va_Z C n d (va_rf o) A V H := by
  rcases h with h | ⟨t, h⟩
  · exact ⟨none, h⟩
  · exact ⟨some t, h⟩
theorem w_thr (hci : ∃ Cn T ty, CLS ci Cn T N ty ∧ 3 < N ∧ (∀ k, k < 4 → T k = TX9 k) ∧ ∀ k, k < 4 → ty k = tyX9 k) : Mg l yJ6_init_2 (ws_ yJ6_init_2 cJ6_init_2 5 none) (k2_rm 1 30) (va_Pc [.ref a, .null, .null, .int 0, .int 0] (PreO D A ad S σ ci N a)) (QO D A ad S σ ci N a (fun _ => True)) A := by
  obtain ⟨Cn, T, ty, K, hN, hT, hty⟩ := hci
  have tf : ∀ k, k < 4 → (T k).2.2.2 = false := fun k hk => by rw [hT k hk]; revert k; decide
  refine o_met (by decide) (Nat.le_of_ble_eq_true rfl) (fun p e s m args below meth c ls f Z hnm hS hO hl => ?_)
  have hx := Z.1
  have hb := Z.2.1
  have hown := Z.2.2.2.2.2.1
  have hts := Z.2.2.2.2.2.2.1
  obtain ⟨-, -, adK, adV, -, -, -, -, -, hz1, hz2, -⟩ := id (Kx.now Z.2.2.2.2.2.2.2.1)
  obtain ⟨o1, hz1⟩ := zq_rf hz1
  obtain ⟨o2, hz2⟩ := zq_rf hz2
  have hz1 := hz1.kept (H1 := s.heap) (fun q _ hq => Z.2.2.2.2.2.2.2.2.2 q hq)
  have hz2 := hz2.kept (H1 := s.heap) (fun q _ hq => Z.2.2.2.2.2.2.2.2.2 q hq)
  refine lv_aload_n hx hb dJ6_init_2_0 rfl (lv_at hl 0 rfl) ?_
  refine h_oinit Z q654 q111 q112 hl.1 (by decide) (Nat.le_of_ble_eq_true rfl) dJ6_init_2_1 ?_
  refine lv_aload_n hx hb dJ6_init_2_4 rfl (lv_at hl 0 rfl) ?_
  refine lv_aload_n hx hb dJ6_init_2_5 rfl (lv_at hl 0 rfl) ?_
  refine o_put (k := 0) Z hS hO K (by omega) (tf 0 (by decide)) (hty 0 (by decide)) rfl rfl (by rw [hT 0 (by decide)]; exact q685) dJ6_init_2_6 (fun H locs hS hO => ?_)
  refine lv_aload_n hx hb dJ6_init_2_9 rfl (lv_at hl 0 rfl) ?_
  refine va_gets hx hb hz1 hS.2 hown (hts _ q655) (fun x h => h) dJ6_init_2_10 ?_
  refine o_put (k := 1) Z hS hO K (by omega) (tf 1 (by decide)) (hty 1 (by decide)) (rf_fit (Or.inr ⟨_, rfl⟩)).1 (rf_fit (Or.inr ⟨_, rfl⟩)).2 (by rw [hT 1 (by decide)]; exact q686) dJ6_init_2_13 (fun H locs hS hO => ?_)
  refine lv_aload_n hx hb dJ6_init_2_16 rfl (lv_at hl 0 rfl) ?_
  refine va_gets hx hb hz2 hS.2 hown (hts _ q657) (fun x h => h) dJ6_init_2_17 ?_
  refine o_put (k := 2) Z hS hO K (by omega) (tf 2 (by decide)) (hty 2 (by decide)) (rf_fit (Or.inl ⟨_, rfl⟩)).1 (rf_fit (Or.inl ⟨_, rfl⟩)).2 (by rw [hT 2 (by decide)]; exact q687) dJ6_init_2_20 (fun H locs hS hO => ?_)
  refine lv_iload hx hb dJ6_init_2_23 (lv_at hl 4 rfl) ?_
  refine lv_if_eq (tgt := 36) hx hb dJ6_init_2_25 (by decide) (fun _ => ?_) (fun c1 => absurd rfl c1)
  refine lv_aload_n hx hb dJ6_init_2_36 rfl (lv_at hl 0 rfl) ?_
  refine lv_null hx hb dJ6_init_2_37 ?_
  refine o_put (k := 1) Z hS hO K (by omega) (tf 1 (by decide)) (hty 1 (by decide)) rfl rfl (by rw [hT 1 (by decide)]; exact q686) dJ6_init_2_38 (fun H locs hS hO => ?_)
  refine lv_aload_n hx hb dJ6_init_2_41 rfl (lv_at hl 0 rfl) ?_
  refine lv_aload_nN hx hb dJ6_init_2_42 rfl (lv_at hl 1 rfl) ?_
  refine o_put (k := 3) Z hS hO K (by omega) (tf 3 (by decide)) (hty 3 (by decide)) rfl rfl (by rw [hT 3 (by decide)]; exact q684) dJ6_init_2_43 (fun H locs hS hO => ?_)
  refine lv_aload_n hx hb dJ6_init_2_46 rfl (lv_at hl 0 rfl) ?_
  refine lv_aload_nN hx hb dJ6_init_2_47 rfl (lv_at hl 2 rfl) ?_
  refine o_put (k := 0) Z hS hO K (by omega) (tf 0 (by decide)) (hty 0 (by decide)) rfl rfl (by rw [hT 0 (by decide)]; exact q685) dJ6_init_2_48 (fun H locs hS hO => ?_)
  refine lv_iload_n hx hb dJ6_init_2_51 rfl (lv_at hl 3 rfl) ?_
  refine lv_if_ne (tgt := 60) hx hb dJ6_init_2_52 (by decide) (fun c1 => absurd rfl c1) (fun _ => ?_)
  refine lv_aload_n hx hb dJ6_init_2_55 rfl (lv_at hl 0 rfl) ?_
  refine lv_null hx hb dJ6_init_2_56 ?_
  refine o_put (k := 2) Z hS hO K (by omega) (tf 2 (by decide)) (hty 2 (by decide)) rfl rfl (by rw [hT 2 (by decide)]; exact q687) dJ6_init_2_57 (fun H locs hS hO => ?_)
  exact o_vret Z hS hO trivial dJ6_init_2_60
theorem cls_W : ∃ Cn T ty, CLS 15 Cn T 7 ty ∧ 3 < 7 ∧ (∀ k, k < 4 → T k = TX9 k) ∧ ∀ k, k < 4 → ty k = tyX9 k := ⟨_, _, _, cls_15, by decide, fun _ _ => rfl, fun _ _ => rfl⟩
theorem w_exc : Mg l yJ7_init (ws_ yJ7_init cJ7_init 5 none) (k2_rm 2 60) (va_Pc [.ref a, .null, .null, .int 0, .int 0] (PreO D A ad S σ 15 7 a)) (QO D A ad S σ 15 7 a (fun _ => True)) A := by
  refine o_met (by decide) (Nat.le_of_ble_eq_true rfl) (fun p e s m args below meth c ls f Z hnm hS hO hl => ?_)
  have hx := Z.1
  have hb := Z.2.1
  refine lv_aload_n hx hb dJ7_init_0 rfl (lv_at hl 0 rfl) ?_
  refine lv_aload_nN hx hb dJ7_init_1 rfl (lv_at hl 1 rfl) ?_
  refine lv_aload_nN hx hb dJ7_init_2 rfl (lv_at hl 2 rfl) ?_
  refine lv_iload_n hx hb dJ7_init_3 rfl (lv_at hl 3 rfl) ?_
  refine lv_iload hx hb dJ7_init_4 (lv_at hl 4 rfl) ?_
  refine o_call (av := [.ref a, .null, .null, .int 0, .int 0]) (rest := []) Z hS hO (en_I (rest := []) Z vJ7_16 rfl rfl dJ7_init_6) q680 rfl rfl ⟨by decide, by decide⟩ (Nat.zero_le _) (Nat.zero_le _) hl.1 (Nat.zero_le _) dJ7_init_6 (w_thr cls_W) (fun H locs f hS hO _ => ?_)
  exact o_vret Z hS hO trivial dJ7_init_9
theorem w_rte : Mg l yJ8_init (ws_ yJ8_init cJ8_init 5 none) (k2_rm 3 90) (va_Pc [.ref a, .null, .null, .int 0, .int 0] (PreO D A ad S σ 15 7 a)) (QO D A ad S σ 15 7 a (fun _ => True)) A := by
  refine o_met (by decide) (Nat.le_of_ble_eq_true rfl) (fun p e s m args below meth c ls f Z hnm hS hO hl => ?_)
  have hx := Z.1
  have hb := Z.2.1
  refine lv_aload_n hx hb dJ8_init_0 rfl (lv_at hl 0 rfl) ?_
  refine lv_aload_nN hx hb dJ8_init_1 rfl (lv_at hl 1 rfl) ?_
  refine lv_aload_nN hx hb dJ8_init_2 rfl (lv_at hl 2 rfl) ?_
  refine lv_iload_n hx hb dJ8_init_3 rfl (lv_at hl 3 rfl) ?_
  refine lv_iload hx hb dJ8_init_4 (lv_at hl 4 rfl) ?_
  refine o_call (av := [.ref a, .null, .null, .int 0, .int 0]) (rest := []) Z hS hO (en_I (rest := []) Z vJ8_16 rfl rfl dJ8_init_6) q677 rfl rfl ⟨by decide, by decide⟩ (Nat.zero_le _) (Nat.zero_le _) hl.1 (Nat.zero_le _) dJ8_init_6 w_exc (fun H locs f hS hO _ => ?_)
  exact o_vret Z hS hO trivial dJ8_init_9
theorem w_wrong {x : Int32} : Mg l yX9_init (ws_ yX9_init cX9_init 2 none) (k2_rm 4 120) (va_Pc [.ref a, .int x] (PreO D A ad S σ 15 7 a)) (QO D A ad S σ 15 7 a (fun f => f 6 = .int x)) A := by
  refine o_met (by decide) (Nat.le_of_ble_eq_true rfl) (fun p e s m args below meth c ls f Z hnm hS hO hl => ?_)
  have hx := Z.1
  have hb := Z.2.1
  refine lv_aload_n hx hb dX9_init_0 rfl (lv_at hl 0 rfl) ?_
  refine lv_null hx hb dX9_init_1 ?_
  refine lv_null hx hb dX9_init_2 ?_
  refine lv_iconst (v := (0 : Int32)) hx hb dX9_init_3 (by decide) ?_
  refine lv_iconst (v := (0 : Int32)) hx hb dX9_init_4 (by decide) ?_
  refine o_call (av := [.ref a, .null, .null, .int 0, .int 0]) (rest := []) Z hS hO (en_I (rest := []) Z vX9_1 rfl rfl dX9_init_5) q674 rfl rfl ⟨by decide, by decide⟩ (Nat.zero_le _) (Nat.zero_le _) hl.1 (Nat.zero_le _) dX9_init_5 w_rte (fun H locs f hS hO _ => ?_)
  refine lv_aload_n hx hb dX9_init_8 rfl (lv_at hl 0 rfl) ?_
  refine lv_iload_n hx hb dX9_init_9 rfl (lv_at hl 1 rfl) ?_
  refine o_putF (k := 6) Z hnm hS hO cls_15 (by decide) rfl rfl rfl rfl rfl q681 dX9_init_10 (fun H locs hS hO => ?_)
  exact o_vret Z hS hO (if_pos rfl) dX9_init_13
/-- Reader.take at its throw -/
theorem a_throwW {β : Type} {ad0 : Nat → Nat} {τ0 : Shp} {r : Rs β} {v0 : β → (Nat → Nat) → Option Value} {lv : List (Nat × Value)} (Z : Cz D (Ew D A) A cX8_take 2 ret RX8 p s m args meth c) (hex : c.exceptionTable.toList.map (fun h => (h.startPc, h.endPc, h.handlerPc, h.catchType)) = []) (hS : St D A ad (sS τ) σ s.heap H locs) (B : Bd (sC τ0) (sL τ0) R τ cl sl) (G : Gx τ0 ad0 τ ad) (hf : 8 ≤ R.frames) (hlo : 200 ≤ R.locals)
    (hl : lv_has ls 2 ((0, .ref (ad i)) :: lv)) (hsh : sS τ i = (15, 0)) (h : (getI σ i 2 fun x => thrW σ τ x) = some r) :
    W p l e R s m args below meth c H locs cl sl (GQ below (QR D A ad0 τ0 v0 r) args s A) (F0 m 4 ls []) := by
  have hx := Z.1
  have hb := Z.2.1
  have hown := Z.2.2.2.2.2.1
  have hts := Z.2.2.2.2.2.2.1
  have h' : thrW σ τ (mI σ i 2) = some r := h
  obtain ⟨g1, h'⟩ := gd_el h'
  obtain ⟨g2, h'⟩ := gd_el h'
  have g1 := of_decide_eq_true g1
  have g2 := of_decide_eq_true g2
  cases h'
  obtain ⟨b1, b2, b3, b4, b5, b6⟩ := id B
  have hKn := Z.2.2.2.2.2.2.2.1.1.1 15 _ cls_15.1
  refine W.newcK hx hb hown (hts _ q629) (hts _ q630) (hts _ q93) rfl dW_take_4 (by omega) (by omega) hKn.2.1 rfl fun H1 kC hkC e1 z1 o1 => ?_
  have hne : ∀ j, ((sS τ) j).1 ≠ 0 → ad j ≠ H.size := fun j hj q => by
    obtain ⟨e', he'⟩ := gC_some (d := D.2.1) (ad := ad) hS.1.2.2.2 hj
    exact absurd (hS.1.1 j e' he').lt (by rw [q]; exact Nat.lt_irrefl _)
  have hob := u_born tyX9 hts cls_15.2.1 hKn hkC e1 cls_15.2.2.1
  have hS1 : St D A ad (sS τ) σ s.heap H1 locs := ⟨⟨fun j e' he' => (hS.1.1 j e' he').kept (o1 _ (hS.1.1 j e' he').lt), hS.1.2⟩, va_S_grow hS.2 z1 o1⟩
  have hO1 : OB D A ad (sS τ) 15 7 H.size H1 (fun k => defaultValue (tyX9 k)) := ⟨hob, Z.2.2.2.2.2.2.2.2.1 _ hS.2.1, hne⟩
  refine (?_ : W p l e R s m args below meth c H1 locs (cl + 1) (sl + 7) _ (F0 m 7 ls [.ref H.size]))
  refine lv_dup hx hb dW_take_7 rfl ?_
  refine lv_aload_n hx hb dW_take_8 rfl (lv_at hl 0 rfl) ?_
  refine h_getI (k := 2) (ρ := Int32) (r := mI σ i 2) (f := some) Z hS1 cls_5 hsh (by decide) rfl (Or.inl ⟨_, q517, Or.inl rfl⟩) dW_take_9 rfl (fun x hxx => ?_)
  cases hxx
  refine o_call (av := [.ref H.size, .int (mI σ i 2)]) (rest := [.ref H.size]) Z hS1 hO1 (en_I (rest := [.ref H.size]) Z vW_24 rfl rfl dW_take_12) q671 rfl rfl ⟨by show 4 + 1 ≤ _; omega, by show 8 + (2 + 11) + 120 ≤ _; omega⟩ (by omega) (by omega) hl.1 (Nat.le_of_ble_eq_true rfl) dW_take_12 w_wrong (fun H2 locs2 f2 hS2 hO2 hf2 => ?_)
  intro T hT X
  obtain ⟨h1, h2, h3, h4, h5⟩ := X.athrowLeaves hx (g := F0 m 15 ls [.ref H.size]) rfl rfl rfl (fun z hz => by
    have : c.exceptionTable.toList = [] := List.map_eq_nil_iff.mp hex
    rw [this] at hz; cases hz) (a := H.size) (rest := []) rfl (by rw [hb]; exact dW_take_15) Z.2.2.2.1
  refine ⟨_, h1, .threw H.size, locs2, _, _, h2, h3, ⟨ad, ?_, by show gW D A ad (sS τ) σ T.heap; rw [hT]; exact hS2.1, hS2.2.F hT, ⟨by show cl + 1 + _ = sC τ + 1; omega, by show sl + 7 + _ = sL τ + 7; omega, g1, g2⟩, H.size, rfl, ?_⟩, h4, h5, hS2.2.2.2⟩
  · exact G.trans ⟨fun _ _ => rfl, fun _ _ _ => rfl, fun _ hi => hi⟩
  · obtain ⟨⟨cell, q1, q2, q3, q4⟩, -, -⟩ := hO2
    exact ⟨cell, by show T.heap[H.size]? = _; rw [hT]; exact q1, q2, q3, by rw [q4 6 (by decide), hf2]⟩
end WR
