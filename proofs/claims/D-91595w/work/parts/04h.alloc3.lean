/-! ===== arrays made, fields of objects under construction, final fields, arrays of references, arraycopy ===== -/
theorem gVr_setI {ad : Nat → Nat} {σ : Mem} {i ci k : Nat} {v : Int32} (hf : fk ci k = 0) : gVr ad (setI σ i k v) i ci = updV (gVr ad σ i ci) k (.int v) := by
  funext j
  unfold updV
  by_cases hj : j = k
  · subst hj
    rw [if_pos rfl]
    unfold gVr
    rw [hf]
    simp [mI_setI]
  · rw [if_neg hj]
    unfold gVr
    rw [mR_setI]
    simp [mI_setI, hj]
theorem gVr_setR {ad : Nat → Nat} {σ : Mem} {i ci k n : Nat} {v : Option Nat} (hf : fk ci k = n + 1) : gVr ad (setR σ i k v) i ci = updV (gVr ad σ i ci) k (va_rf (v.map ad)) := by
  funext j
  unfold updV
  by_cases hj : j = k
  · subst hj
    rw [if_pos rfl]
    unfold gVr
    rw [hf]
    simp [mR_setR]
  · rw [if_neg hj]
    unfold gVr
    rw [mI_setR]
    simp [mR_setR, hj]
def cpyI (σ : Mem) (i j sp dp n : Nat) : Mem := (fun a b => if a = j then va_cpy (σ.1 i) (σ.1 j) sp dp n b else σ.1 a b, σ.2)
def copyI {β : Type} (σ : Mem) (i n0 : Nat) (sp : Int32) (j n1 : Nat) (dp n : Int32) (f : Mem → Option β) : Option β :=
  gd (decide (¬ sp < 0) && (decide (¬ dp < 0) && (decide (¬ n < 0) && (decide (sp.toNatClampNeg + n.toNatClampNeg ≤ n0) && decide (dp.toNatClampNeg + n.toNatClampNeg ≤ n1))))) (f (cpyI σ i j sp.toNatClampNeg dp.toNatClampNeg n.toNatClampNeg))
def cookable (σ : Mem) (S : Nat → Nat × Nat) (j ci N : Nat) : Bool := (List.range N).all fun k => match fk ci k with
  | 0 => true
  | 1 => decide (mR σ j k = none)
  | n + 2 => decide (mR σ j k = some (j + n)) && decide (S (j + n) = shF ci k)
def cook {β : Type} (σ : Mem) (τ : Shp) (j ci N : Nat) (f : Shp → Option β) : Option β := gd (cookable σ (sS τ) j ci N) (f (reS τ j (ci + 10, 0)))
/-- no listed shape is that of a raw object -/
theorem okT_z : (okT.all fun r => r.all fun l => l.all fun sh => decide (sh.1 < 10) || decide (sh.2 = 0)) = true := by decide +kernel
theorem okL_z {ci k : Nat} {sh : Nat × Nat} (h : sh ∈ okL ci k) : sh.1 < 10 ∨ sh.2 = 0 := by
  unfold okL at h
  rw [List.getD_eq_getElem?_getD, List.getD_eq_getElem?_getD] at h
  cases h1 : okT[ci]? with
  | none => rw [h1] at h; simp at h
  | some r =>
    rw [h1] at h
    simp only [Option.getD_some] at h
    cases h2 : r[k]? with
    | none => rw [h2] at h; simp at h
    | some l =>
      rw [h2] at h
      simp only [Option.getD_some] at h
      have := okT_z
      rw [List.all_eq_true] at this
      have := this r (List.mem_of_getElem? h1)
      rw [List.all_eq_true] at this
      have := this l (List.mem_of_getElem? h2)
      rw [List.all_eq_true] at this
      simpa using this sh h
theorem shF_ztab : ∀ ci, ci < 17 → ∀ k, k < 64 → (shF ci k).1 < 10 ∨ (shF ci k).2 = 0 := by decide +kernel
theorem shF_z {ci k n : Nat} (h : fk ci k = n + 2) : (shF ci k).1 < 10 ∨ (shF ci k).2 = 0 := by
  by_cases hb : ci < 17 ∧ k < 64
  · exact shF_ztab ci hb.1 k hb.2
  · rw [fk_out hb] at h; omega
theorem elK_z (a : Nat) : (elK a).2 = 0 := by
  unfold elK
  split
  · rfl
  · split <;> rfl
section A3
variable {p : Program} {l : Launch} {e : Env} {R : Room} {s : State} {m : MethodId} {args : Array Value} {below : List Frame} {meth : Method} {c : Code} {H : Heap} {locs : List Loc} {cells slots cl sl c0 s0 : Nat} {Q : State → Prop}
variable {cc : ByteArray} {nL : Nat} {ret : Option FieldType} {pc : Nat} {ls : Array Slot} {rest : List Value} {D : gD} {A : Nat → Prop} {ad : Nat → Nat} {S : Nat → Nat × Nat} {τ : Shp} {σ : Mem} {own : String} {i : Nat} {ρ : Type} {r : ρ}
/-- a final field is written in its constructor -/
theorem h_putF {idx ci k N z : Nat} {Cn : String} {T : u_T} {ty : Nat → FieldType} {v : Value} {σ' : Mem} {ft : FieldType} {V V' : Nat → Value} (Z : Cz D (Ew D A) A cc nL ret own p s m args meth c) (hnm : meth.name = "<init>") (hS : St D A ad S σ s.heap H locs) (K : CLS ci Cn T N ty) (hsh : S i = (ci + 10, z)) (hg : gC D.2.1 ad S σ i = some (.inr (ci, V))) (hg' : gC D.2.1 ad S σ' i = some (.inr (ci, V'))) (hk : k < N) (hfin : (T k).2.2.2 = true) (hdecl : (T k).1 = own) (hty : ty k = ft) (hn : narrow ft v = v) (hfit : fits ft v = true)
    (hv : V' = updV V k v) (ho : ∀ j, j ≠ i → gC D.2.1 ad S σ' j = gC D.2.1 ad S σ j) (hT : gT S σ') (hl : Cond.fieldLink own idx (T k).1 (T k).2.1 (T k).2.2.1 ∈ lw_all) (hd : decode cc pc = .ok (.putfield idx, 3))
    (kk : ∀ (H1 : Heap) (locs1 : List Loc), St D A ad S σ' s.heap H1 locs1 → W p l e R s m args below meth c H1 locs1 cells slots Q (F0 m (pc + 3) ls rest)) : W p l e R s m args below meth c H locs cells slots Q (F0 m pc ls (v :: .ref (ad i) :: rest)) := by
  obtain ⟨hx, hb, -, -, -, hown, hts, hK, -⟩ := Z
  have hap := va_apart (own := own) hts K.2.1 ty K.2.2.1 K.2.2.2 hK.1 K.1
  obtain ⟨q, h1, cell, q1, q2, q3, q4⟩ := hS.1.1 i _ hg
  have hr : q = (Cn, T, N) := Option.some.inj (h1.symm.trans K.1)
  subst hr
  obtain ⟨hSl, hfc, kC, hkC, hkind⟩ := hK.1.1 ci _ K.1
  obtain ⟨cf, kf, fi, f, hi, hsl⟩ := hSl k hk
  have hlay := hts _ (K.2.1 _ (u_in_lay hk))
  unfold u_lay at hlay
  rw [if_pos hfin] at hlay
  have hst := (u_facts hfc hkC (u_lays hts K.2.1 hk) hi).1
  have hcf : m.cls = cf := by
    obtain ⟨_, _, c', _, _, _, -, -, hf', -, -, -, hown2, -⟩ := Cond.laysFinal_spec hlay
    have e1 : c' = cf := by have := hi.symm.trans hf'; simp at this; exact this.1.symm
    rw [hdecl] at hown2
    rw [← e1]; exact Option.some.inj (hown.symm.trans hown2)
  have h6 := u_fits hfc hkC hkind (Or.inr hlay) hi ((K.2.2.1 k hk).trans (congrArg some hty)) hn hfit
  refine W.putFinK hx hb hown (hts _ hl) hi hst hcf hnm (by rw [q2]; exact h6) q1 q3 (by rw [hsl]; exact k2_hasslot (q4 k hk)) rfl rfl hd fun H' e1 e2 e3 => ?_
  rw [hsl] at e1 ⊢
  refine kk H' _ ⟨hS.1.upd hg' ho hT ⟨_, K.1, ?_⟩ e3, hS.2.put e2 e3 (hS.1.2.2.1 i (gC_live hg))⟩
  rw [hv]
  exact t_OB.to (V := updV V k v) ⟨_, e1, q2, q3, t_set q4 hap hk v⟩ (fun j _ => rfl)
theorem h_putFI {idx ci k N : Nat} {Cn : String} {T : u_T} {ty : Nat → FieldType} {v : Int32} {f : Mem → Option ρ} (Z : Cz D (Ew D A) A cc nL ret own p s m args meth c) (hnm : meth.name = "<init>") (hS : St D A ad S σ s.heap H locs) (K : CLS ci Cn T N ty) (hsh : S i = (ci + 10, 0)) (hk : k < N) (hf : fk ci k = 0) (hfin : (T k).2.2.2 = true) (hdecl : (T k).1 = own) (hty : ty k = .int) (hl : Cond.fieldLink own idx (T k).1 (T k).2.1 (T k).2.2.1 ∈ lw_all) (hd : decode cc pc = .ok (.putfield idx, 3)) (h : putI σ i k v f = some r)
    (kk : ∀ (σ' : Mem) (H1 : Heap) (locs1 : List Loc), St D A ad S σ' s.heap H1 locs1 → f σ' = some r → W p l e R s m args below meth c H1 locs1 cells slots Q (F0 m (pc + 3) ls rest)) : W p l e R s m args below meth c H locs cells slots Q (F0 m pc ls (.int v :: .ref (ad i) :: rest)) :=
  h_putF Z hnm hS K hsh (gC_o hsh) (gC_o hsh) hk hfin hdecl hty rfl rfl (gV_setI hf) gC_setI hS.1.2.2.2 hl hd (fun H1 locs1 hS => kk _ H1 locs1 hS h)
theorem h_putFZ {idx ci k N : Nat} {Cn : String} {T : u_T} {ty : Nat → FieldType} {v : Int32} {f : Mem → Option ρ} (Z : Cz D (Ew D A) A cc nL ret own p s m args meth c) (hnm : meth.name = "<init>") (hS : St D A ad S σ s.heap H locs) (K : CLS ci Cn T N ty) (hsh : S i = (ci + 10, 0)) (hk : k < N) (hf : fk ci k = 0) (hfin : (T k).2.2.2 = true) (hdecl : (T k).1 = own) (hty : ty k = .boolean) (hl : Cond.fieldLink own idx (T k).1 (T k).2.1 (T k).2.2.1 ∈ lw_all) (hd : decode cc pc = .ok (.putfield idx, 3)) (h : putZ σ i k v f = some r)
    (kk : ∀ (σ' : Mem) (H1 : Heap) (locs1 : List Loc), St D A ad S σ' s.heap H1 locs1 → f σ' = some r → W p l e R s m args below meth c H1 locs1 cells slots Q (F0 m (pc + 3) ls rest)) : W p l e R s m args below meth c H locs cells slots Q (F0 m pc ls (.int v :: .ref (ad i) :: rest)) := by
  obtain ⟨hz, h⟩ := gd_el h
  exact h_putF Z hnm hS K hsh (gC_o hsh) (gC_o hsh) hk hfin hdecl hty (isz_nar hz) (isz_fit hz) (gV_setI hf) gC_setI hS.1.2.2.2 hl hd (fun H1 locs1 hS => kk _ H1 locs1 hS h)
theorem gT_R0 {ci k : Nat} {v : Option Nat} (hT : gT S σ) (hsh : S i = (ci + 10, 0)) (ht : ∀ t, v = some t → S t ∈ okL ci k) : gT S (setR σ i k v) := by
  refine gT_setR hT (fun ci' hc hf' t h' => ?_) (fun a n hc h5 h8 t h' => ?_) (fun ci' z hc t h' => ?_)
  · have : ci' = ci := by
      have := congrArg Prod.fst (hc.symm.trans hsh)
      simp at this
      exact this
    subst this
    exact ht t h'
  · rw [hsh] at hc
    have := congrArg Prod.fst hc
    simp at this
    omega
  · rw [hsh] at hc
    have := congrArg Prod.snd hc
    simp at this
theorem rf_fit {ft : FieldType} {o : Option Nat} (h : (∃ C, ft = .object C) ∨ ∃ t, ft = .array t) : narrow ft (va_rf o) = va_rf o ∧ fits ft (va_rf o) = true := by
  rcases h with ⟨C, rfl⟩ | ⟨t, rfl⟩ <;> cases o <;> exact ⟨rfl, rfl⟩
theorem h_putFR {idx ci k N : Nat} {Cn : String} {T : u_T} {ty : Nat → FieldType} {v : Option Nat} {w : Value} {f : Mem → Option ρ} (Z : Cz D (Ew D A) A cc nL ret own p s m args meth c) (hnm : meth.name = "<init>") (hS : St D A ad S σ s.heap H locs) (K : CLS ci Cn T N ty) (hsh : S i = (ci + 10, 0)) (hk : k < N) (hf : fk ci k = 1) (hfin : (T k).2.2.2 = true) (hdecl : (T k).1 = own) (hty : (∃ C, ty k = .object C) ∨ ∃ t, ty k = .array t) (hw : va_rf (v.map ad) = w) (ht : ∀ t, v = some t → S t ∈ okL ci k) (hl : Cond.fieldLink own idx (T k).1 (T k).2.1 (T k).2.2.1 ∈ lw_all) (hd : decode cc pc = .ok (.putfield idx, 3)) (h : putR σ i k v f = some r)
    (kk : ∀ (σ' : Mem) (H1 : Heap) (locs1 : List Loc), St D A ad S σ' s.heap H1 locs1 → f σ' = some r → W p l e R s m args below meth c H1 locs1 cells slots Q (F0 m (pc + 3) ls rest)) : W p l e R s m args below meth c H locs cells slots Q (F0 m pc ls (w :: .ref (ad i) :: rest)) := by
  subst hw
  exact h_putF Z hnm hS K hsh (gC_o hsh) (gC_o hsh) hk hfin hdecl rfl (rf_fit hty).1 (rf_fit hty).2 (gV_setR hf) gC_setR (gT_R0 hS.1.2.2.2 hsh ht) hl hd (fun H1 locs1 hS => kk _ H1 locs1 hS h)
/-! raw objects -/
theorem gT_R1 {ci k z : Nat} {v : Option Nat} (hT : gT S σ) (hsh : S i = (ci + 10, z + 1)) (ht : ∀ t, v = some t → (S t).1 ≠ 0) : gT S (setR σ i k v) := by
  refine gT_setR hT (fun ci' hc hf' t h' => ?_) (fun a n hc h5 h8 t h' => ?_) (fun ci' z hc t h' => ht t h')
  · rw [hsh] at hc
    have := congrArg Prod.snd hc
    simp at this
  · rw [hsh] at hc
    have := congrArg Prod.fst hc
    simp at this
    omega
theorem h_rputFI {idx ci k N z : Nat} {Cn : String} {T : u_T} {ty : Nat → FieldType} {v : Int32} {f : Mem → Option ρ} (Z : Cz D (Ew D A) A cc nL ret own p s m args meth c) (hnm : meth.name = "<init>") (hS : St D A ad S σ s.heap H locs) (K : CLS ci Cn T N ty) (hsh : S i = (ci + 10, z + 1)) (hk : k < N) (hf : fk ci k = 0) (hfin : (T k).2.2.2 = true) (hdecl : (T k).1 = own) (hty : ty k = .int) (hl : Cond.fieldLink own idx (T k).1 (T k).2.1 (T k).2.2.1 ∈ lw_all) (hd : decode cc pc = .ok (.putfield idx, 3)) (h : putI σ i k v f = some r)
    (kk : ∀ (σ' : Mem) (H1 : Heap) (locs1 : List Loc), St D A ad S σ' s.heap H1 locs1 → f σ' = some r → W p l e R s m args below meth c H1 locs1 cells slots Q (F0 m (pc + 3) ls rest)) : W p l e R s m args below meth c H locs cells slots Q (F0 m pc ls (.int v :: .ref (ad i) :: rest)) :=
  h_putF Z hnm hS K hsh (gC_r hsh) (gC_r hsh) hk hfin hdecl hty rfl rfl (gVr_setI hf) gC_setI hS.1.2.2.2 hl hd (fun H1 locs1 hS => kk _ H1 locs1 hS h)
theorem h_rputI {idx ci k N z : Nat} {Cn : String} {T : u_T} {ty : Nat → FieldType} {v : Int32} {f : Mem → Option ρ} (Z : Cz D (Ew D A) A cc nL ret own p s m args meth c) (hS : St D A ad S σ s.heap H locs) (K : CLS ci Cn T N ty) (hsh : S i = (ci + 10, z + 1)) (hk : k < N) (hf : fk ci k = 0) (hfin : (T k).2.2.2 = false) (hty : ty k = .int) (hl : FLk own idx T k) (hd : decode cc pc = .ok (.putfield idx, 3)) (h : putI σ i k v f = some r)
    (kk : ∀ (σ' : Mem) (H1 : Heap) (locs1 : List Loc), St D A ad S σ' s.heap H1 locs1 → f σ' = some r → W p l e R s m args below meth c H1 locs1 cells slots Q (F0 m (pc + 3) ls rest)) : W p l e R s m args below meth c H locs cells slots Q (F0 m pc ls (.int v :: .ref (ad i) :: rest)) :=
  h_put Z hS K hsh (gC_r hsh) (gC_r hsh) hk hfin hty rfl rfl (gVr_setI hf) gC_setI hS.1.2.2.2 hl hd (fun H1 locs1 hS => kk _ H1 locs1 hS h)
theorem h_rputFR {idx ci k N z n t : Nat} {Cn : String} {T : u_T} {ty : Nat → FieldType} {f : Mem → Option ρ} (Z : Cz D (Ew D A) A cc nL ret own p s m args meth c) (hnm : meth.name = "<init>") (hS : St D A ad S σ s.heap H locs) (K : CLS ci Cn T N ty) (hsh : S i = (ci + 10, z + 1)) (hk : k < N) (hf : fk ci k = n + 1) (hfin : (T k).2.2.2 = true) (hdecl : (T k).1 = own) (hty : (∃ C, ty k = .object C) ∨ ∃ t, ty k = .array t) (ht : (S t).1 ≠ 0) (hl : Cond.fieldLink own idx (T k).1 (T k).2.1 (T k).2.2.1 ∈ lw_all) (hd : decode cc pc = .ok (.putfield idx, 3)) (h : putR σ i k (some t) f = some r)
    (kk : ∀ (σ' : Mem) (H1 : Heap) (locs1 : List Loc), St D A ad S σ' s.heap H1 locs1 → f σ' = some r → W p l e R s m args below meth c H1 locs1 cells slots Q (F0 m (pc + 3) ls rest)) : W p l e R s m args below meth c H locs cells slots Q (F0 m pc ls (.ref (ad t) :: .ref (ad i) :: rest)) :=
  h_putF (v := va_rf ((some t).map ad)) Z hnm hS K hsh (gC_r hsh) (gC_r hsh) hk hfin hdecl rfl (rf_fit hty).1 (rf_fit hty).2 (gVr_setR hf) gC_setR (gT_R1 hS.1.2.2.2 hsh (fun q hq => by cases hq; exact ht)) hl hd (fun H1 locs1 hS => kk _ H1 locs1 hS h)
/-- a reference of a raw object is read -/
theorem h_rgetN {idx ci k N z n : Nat} {Cn : String} {T : u_T} {ty : Nat → FieldType} {f : Nat → Option ρ} (Z : Cz D (Ew D A) A cc nL ret own p s m args meth c) (hS : St D A ad S σ s.heap H locs) (K : CLS ci Cn T N ty) (hsh : S i = (ci + 10, z + 1)) (hk : k < N) (hf : fk ci k = n + 1) (hl : FLk own idx T k) (hd : decode cc pc = .ok (.getfield idx, 3)) (h : getN σ i k f = some r)
    (kk : ∀ j : Nat, f j = some r → W p l e R s m args below meth c H locs cells slots Q (F0 m (pc + 3) ls (.ref (ad j) :: rest))) : W p l e R s m args below meth c H locs cells slots Q (F0 m pc ls (.ref (ad i) :: rest)) := by
  obtain ⟨j, hj, h⟩ := bnd_el h
  exact h_get Z hS K hsh (gC_r hsh) hk (by unfold gVr; rw [hf]; show va_rf ((mR σ i k).map ad) = _; rw [hj]; rfl) hl hd (kk j h)
/-- Object's constructor -/
theorem h_oinit {idx a : Nat} (Z : Cz D (Ew D A) A cc nL ret own p s m args meth c) (hl : Cond.methodLink own idx Lib.objectInit ∈ lw_all) (hi : Cond.instanceMethod Lib.objectInit ∈ lw_all) (hc : Cond.code Lib.objectInit ⟨#[0xb1]⟩ 1 none ∈ lw_all) (hsz : ls.size = nL) (hfr : 1 ≤ R.frames) (hlo : (rest.map fun v => v.category).sum + 12 ≤ R.locals) (hd : decode cc pc = .ok (.invokespecial idx, 3))
    (kk : W p l e R s m args below meth c H locs cells slots Q (F0 m (pc + 3) ls rest)) : W p l e R s m args below meth c H locs cells slots Q (F0 m pc ls (.ref a :: rest)) :=
  W.objInit Z.1 Z.2.1 Z.2.2.2.2.2.1 (Z.2.2.2.2.2.2.1 _ hl) (Z.2.2.2.2.2.2.1 _ hi) (Z.2.2.2.2.2.2.1 _ hc) rfl (hsz.trans Z.2.2.2.2.1.symm) rfl hd hfr (by show 2 * 0 + _ + 12 ≤ _; omega) kk
/-! arrays are made -/
theorem a_newaK {atype : ArrayType} {a n j : Nat} {w : Int32} {f : Mem → Shp → Option ρ} (Z : Cz D (Ew D A) A cc nL ret own p s m args meth c) (hS : St D A ad (sS τ) σ s.heap H locs) (B : Bd c0 s0 R τ cl sl) (h1 : 1 ≤ a) (h5 : a < 5) (hnm : "[" ++ (newarray.typeOf atype).toString = arN.getD a "") (hac : Cond.arrayClass (newarray.typeOf atype) ∈ lw_all) (hw0 : ¬ w < 0) (hw : w.toNatClampNeg = n) (hby : n * componentBytes (newarray.typeOf atype) ≤ 536870912)
    (hcell : ∀ (d : Nat → ClassId) (ad' : Nat → Nat), ∃ x, gC d ad' (shU (sS τ) j (a, n)) (clr σ j) j = some (.inl x) ∧ vp_cell x.1 x.2 = arrV (d a) n (fun _ => defaultValue (newarray.typeOf atype))) (hd : decode cc pc = .ok (.newarray atype, 2)) (h : newO σ τ j (a, n) n f = some r)
    (kk : ∀ (ad' : Nat → Nat) (σ' : Mem) (τ' : Shp) (H1 : Heap), Gx τ ad τ' ad' → sS τ' j = (a, n) → St D A ad' (sS τ') σ' s.heap H1 locs → Bd c0 s0 R τ' (cl + 1) (sl + n) → f σ' τ' = some r → W p l e R s m args below meth c H1 locs (cl + 1) (sl + n) Q (F0 m (pc + 2) ls (.ref (ad' j) :: rest))) : W p l e R s m args below meth c H locs cl sl Q (F0 m pc ls (.int w :: rest)) := by
  obtain ⟨g1, g2, g3, h⟩ := newO_el h
  obtain ⟨hx, hb, -, -, -, hown, hts, hK, hA, -⟩ := Z
  refine va_newaK hx hb (hts _ hac) rfl hd rfl hw0 hw hby (by obtain ⟨b1, b2, b3, b4, b5, b6⟩ := B; omega) (by obtain ⟨b1, b2, b3, b4, b5, b6⟩ := B; omega) rfl fun H1 cA e1 z1 o1 hAr hNm => ?_
  have hcA : cA = D.2.1 a := by
    have q := hK.now.2.1 a h1 (by omega)
    rw [← hnm] at q
    exact Option.some.inj (hNm.symm.trans q)
  subst hcA
  have hself : adU ad j H.size j = H.size := if_pos rfl
  obtain ⟨x, hx1, hx2⟩ := hcell D.2.1 (adU ad j H.size)
  have hT : gT (shU (sS τ) j (a, n)) (clr σ j) := gT_grow hS.1.2.2.2 g1 (fun i hi => (clr_ne hi).2.2) (fun k => by rw [mR_clr, if_pos rfl]) (fun ci' hc k => by
    have q1 := congrArg Prod.fst hc
    simp at q1
    omega) (by constructor <;> (show a ≠ _; omega))
  have hold : gW D A (adU ad j H.size) (shU (sS τ) j (a, n)) (clr σ j) H1 := gW_grow hS.1 g1 o1 (hA _ hS.2.1) (fun i hi => clr_ne hi) hT hx1 (by show H1[H.size]? = some (vp_cell _ _); rw [hx2]; exact e1)
  have fin := kk (adU ad j H.size) (clr σ j) (alc τ j (a, n) n) H1 ⟨adU_Ag g1, (alc_Xt g1).1, (alc_Xt g1).2⟩ (if_pos rfl) ⟨hold, va_S_grow hS.2 z1 o1⟩ (by obtain ⟨b1, b2, b3, b4, b5, b6⟩ := B; exact ⟨by show cl + 1 + c0 = sC τ + 1; omega, by show sl + n + s0 = sL τ + n; omega, b3, b4, g2, g3⟩) h
  rw [hself] at fin
  exact fin
theorem a_newaI {n j : Nat} {w : Int32} {f : Mem → Shp → Option ρ} (Z : Cz D (Ew D A) A cc nL ret own p s m args meth c) (hS : St D A ad (sS τ) σ s.heap H locs) (B : Bd c0 s0 R τ cl sl) (hac : Cond.arrayClass .int ∈ lw_all) (hw0 : ¬ w < 0) (hw : w.toNatClampNeg = n) (hby : n * 4 ≤ 536870912) (hd : decode cc pc = .ok (.newarray .int, 2)) (h : newO σ τ j (1, n) n f = some r)
    (kk : ∀ (ad' : Nat → Nat) (σ' : Mem) (τ' : Shp) (H1 : Heap), Gx τ ad τ' ad' → sS τ' j = (1, n) → St D A ad' (sS τ') σ' s.heap H1 locs → Bd c0 s0 R τ' (cl + 1) (sl + n) → f σ' τ' = some r → W p l e R s m args below meth c H1 locs (cl + 1) (sl + n) Q (F0 m (pc + 2) ls (.ref (ad' j) :: rest))) : W p l e R s m args below meth c H locs cl sl Q (F0 m pc ls (.int w :: rest)) :=
  a_newaK (atype := .int) (a := 1) Z hS B (by decide) (by decide) rfl hac hw0 hw hby (fun d ad' => ⟨_, gC_1 (if_pos rfl), by rw [vp_cell_i]; congr 1; funext k; rw [mI_clr, if_pos rfl]; rfl⟩) hd h kk
theorem a_newaB {n j : Nat} {w : Int32} {f : Mem → Shp → Option ρ} (Z : Cz D (Ew D A) A cc nL ret own p s m args meth c) (hS : St D A ad (sS τ) σ s.heap H locs) (B : Bd c0 s0 R τ cl sl) (hac : Cond.arrayClass .byte ∈ lw_all) (hw0 : ¬ w < 0) (hw : w.toNatClampNeg = n) (hby : n * 1 ≤ 536870912) (hd : decode cc pc = .ok (.newarray .byte, 2)) (h : newO σ τ j (2, n) n f = some r)
    (kk : ∀ (ad' : Nat → Nat) (σ' : Mem) (τ' : Shp) (H1 : Heap), Gx τ ad τ' ad' → sS τ' j = (2, n) → St D A ad' (sS τ') σ' s.heap H1 locs → Bd c0 s0 R τ' (cl + 1) (sl + n) → f σ' τ' = some r → W p l e R s m args below meth c H1 locs (cl + 1) (sl + n) Q (F0 m (pc + 2) ls (.ref (ad' j) :: rest))) : W p l e R s m args below meth c H locs cl sl Q (F0 m pc ls (.int w :: rest)) :=
  a_newaK (atype := .byte) (a := 2) Z hS B (by decide) (by decide) rfl hac hw0 hw hby (fun d ad' => ⟨_, gC_2 (if_pos rfl), by rw [vp_cell_i]; congr 1; funext k; rw [mI_clr, if_pos rfl]; rfl⟩) hd h kk
theorem a_newaZ {n j : Nat} {w : Int32} {f : Mem → Shp → Option ρ} (Z : Cz D (Ew D A) A cc nL ret own p s m args meth c) (hS : St D A ad (sS τ) σ s.heap H locs) (B : Bd c0 s0 R τ cl sl) (hac : Cond.arrayClass .boolean ∈ lw_all) (hw0 : ¬ w < 0) (hw : w.toNatClampNeg = n) (hby : n * 1 ≤ 536870912) (hd : decode cc pc = .ok (.newarray .boolean, 2)) (h : newO σ τ j (3, n) n f = some r)
    (kk : ∀ (ad' : Nat → Nat) (σ' : Mem) (τ' : Shp) (H1 : Heap), Gx τ ad τ' ad' → sS τ' j = (3, n) → St D A ad' (sS τ') σ' s.heap H1 locs → Bd c0 s0 R τ' (cl + 1) (sl + n) → f σ' τ' = some r → W p l e R s m args below meth c H1 locs (cl + 1) (sl + n) Q (F0 m (pc + 2) ls (.ref (ad' j) :: rest))) : W p l e R s m args below meth c H locs cl sl Q (F0 m pc ls (.int w :: rest)) :=
  a_newaK (atype := .boolean) (a := 3) Z hS B (by decide) (by decide) rfl hac hw0 hw hby (fun d ad' => ⟨_, gC_3 (if_pos rfl), by rw [vp_cell_i]; congr 1; funext k; rw [mI_clr, if_pos rfl]; rfl⟩) hd h kk
theorem a_newaL {n j : Nat} {w : Int32} {f : Mem → Shp → Option ρ} (Z : Cz D (Ew D A) A cc nL ret own p s m args meth c) (hS : St D A ad (sS τ) σ s.heap H locs) (B : Bd c0 s0 R τ cl sl) (hac : Cond.arrayClass .long ∈ lw_all) (hw0 : ¬ w < 0) (hw : w.toNatClampNeg = n) (hby : n * 8 ≤ 536870912) (hd : decode cc pc = .ok (.newarray .long, 2)) (h : newO σ τ j (4, n) n f = some r)
    (kk : ∀ (ad' : Nat → Nat) (σ' : Mem) (τ' : Shp) (H1 : Heap), Gx τ ad τ' ad' → sS τ' j = (4, n) → St D A ad' (sS τ') σ' s.heap H1 locs → Bd c0 s0 R τ' (cl + 1) (sl + n) → f σ' τ' = some r → W p l e R s m args below meth c H1 locs (cl + 1) (sl + n) Q (F0 m (pc + 2) ls (.ref (ad' j) :: rest))) : W p l e R s m args below meth c H locs cl sl Q (F0 m pc ls (.int w :: rest)) :=
  a_newaK (atype := .long) (a := 4) Z hS B (by decide) (by decide) rfl hac hw0 hw hby (fun d ad' => ⟨_, gC_4 (if_pos rfl), by rw [vp_cell_l]; congr 1; funext k; rw [mL_clr, if_pos rfl]; rfl⟩) hd h kk
theorem a_newq {idx a n j : Nat} {w : Int32} {f : Mem → Shp → Option ρ} (Z : Cz D (Ew D A) A cc nL ret own p s m args meth c) (hS : St D A ad (sS τ) σ s.heap H locs) (B : Bd c0 s0 R τ cl sl) (h5 : 5 ≤ a) (h8 : a < 8) (hcl : Cond.classLink own idx (elC a) ∈ lw_all) (hov : Cond.arrayOver (.object (elC a)) ∈ ewL) (hw0 : ¬ w < 0) (hw : w.toNatClampNeg = n) (hby : n * 4 ≤ 536870912) (hd : decode cc pc = .ok (.anewarray idx, 3)) (h : newO σ τ j (a, n) n f = some r)
    (kk : ∀ (ad' : Nat → Nat) (σ' : Mem) (τ' : Shp) (H1 : Heap), Gx τ ad τ' ad' → sS τ' j = (a, n) → St D A ad' (sS τ') σ' s.heap H1 locs → Bd c0 s0 R τ' (cl + 1) (sl + n) → f σ' τ' = some r → W p l e R s m args below meth c H1 locs (cl + 1) (sl + n) Q (F0 m (pc + 3) ls (.ref (ad' j) :: rest))) : W p l e R s m args below meth c H locs cl sl Q (F0 m pc ls (.int w :: rest)) := by
  obtain ⟨g1, g2, g3, h⟩ := newO_el h
  obtain ⟨hx, hb, -, -, -, hown, hts, hK, hA, -⟩ := Z
  subst hw
  refine W.anew hx hb hown (hts _ hcl) (va_AO.use (hK.now.1 _ hov)) rfl hd rfl hw0 hby (by obtain ⟨b1, b2, b3, b4, b5, b6⟩ := B; omega) (by obtain ⟨b1, b2, b3, b4, b5, b6⟩ := B; omega) fun cA kA comp f1 f2 f3 f4 => ?_
  have hcA : cA = D.2.1 a := by
    have q := hK.now.2.1 a (by omega) h8
    have : arN.getD a "" = "[" ++ (FieldType.object (elC a)).toString := by
      rcases (show a = 5 ∨ a = 6 ∨ a = 7 by omega) with rfl | rfl | rfl <;> decide
    rw [this] at q
    exact Option.some.inj (f1.symm.trans q)
  subst hcA
  generalize hH1 : H.push ({ cls := D.2.1 a, slots := Array.replicate w.toNatClampNeg .null, vm := .none } : Cell) = H1
  have z1 : H1.size = H.size + 1 := by rw [← hH1, Array.size_push]
  have e1 : H1[H.size]? = some (arrV (D.2.1 a) w.toNatClampNeg (fun _ => .null)) := by rw [← hH1, Array.getElem?_push_size, ← arrV_new]
  have o1 : ∀ q : Nat, q < H.size → H1[q]? = H[q]? := fun q hq => by rw [← hH1, Array.getElem?_push, if_neg (Nat.ne_of_lt hq)]
  have hself : adU ad j H.size j = H.size := if_pos rfl
  have hT : gT (shU (sS τ) j (a, w.toNatClampNeg)) (clr σ j) := gT_grow hS.1.2.2.2 g1 (fun i hi => (clr_ne hi).2.2) (fun k => by rw [mR_clr, if_pos rfl]) (fun ci' hc k => by
    have q1 := congrArg Prod.fst hc
    simp at q1
    omega) (by constructor <;> (show a ≠ _; omega))
  have hold : gW D A (adU ad j H.size) (shU (sS τ) j (a, w.toNatClampNeg)) (clr σ j) H1 := gW_grow hS.1 g1 o1 (hA _ hS.2.1) (fun i hi => clr_ne hi) hT (gC_a (if_pos rfl) h5 h8) (by
    show H1[H.size]? = some (vp_cell _ _)
    rw [vp_cell_q, e1]
    congr 2
    funext k
    rw [mR_clr, if_pos rfl]
    rfl)
  have fin := kk (adU ad j H.size) (clr σ j) (alc τ j (a, w.toNatClampNeg) w.toNatClampNeg) H1 ⟨adU_Ag g1, (alc_Xt g1).1, (alc_Xt g1).2⟩ (if_pos rfl) ⟨hold, va_S_grow hS.2 z1 o1⟩ (by obtain ⟨b1, b2, b3, b4, b5, b6⟩ := B; exact ⟨by show cl + 1 + c0 = sC τ + 1; omega, by show sl + _ + s0 = sL τ + _; omega, b3, b4, g2, g3⟩) h
  rw [hself] at fin
  exact fin
/-- the constructor is through: the object is what its class says -/
theorem a_cook {ci N j : Nat} {Cn : String} {T : u_T} {ty : Nat → FieldType} {f : Shp → Option ρ} {g : JFrame} (hS : St D A ad (sS τ) σ s.heap H locs) (B : Bd c0 s0 R τ cl sl) (K : CLS ci Cn T N ty) (hN : ∀ k, N ≤ k → fk ci k = 0) (hsh : sS τ j = (ci + 10, 1)) (h : cook σ τ j ci N f = some r)
    (kk : ∀ τ' : Shp, Gx τ ad τ' ad → sS τ' j = (ci + 10, 0) → St D A ad (sS τ') σ s.heap H locs → Bd c0 s0 R τ' cl sl → f τ' = some r → W p l e R s m args below meth c H locs cl sl Q g) : W p l e R s m args below meth c H locs cl sl Q g := by
  obtain ⟨hck, h⟩ := gd_el h
  have hcond : ∀ k, k < N → (fk ci k = 1 → mR σ j k = none) ∧ ∀ n, fk ci k = n + 2 → mR σ j k = some (j + n) ∧ sS τ (j + n) = shF ci k := by
    intro k hk
    have := List.all_eq_true.mp hck k (List.mem_range.mpr hk)
    refine ⟨fun hf => ?_, fun n hf => ?_⟩
    · rw [hf] at this
      exact of_decide_eq_true this
    · rw [hf] at this
      simp only [Bool.and_eq_true, decide_eq_true_eq] at this
      exact this
  have hS' : ∀ i, i ≠ j → shU (sS τ) j (ci + 10, 0) i = sS τ i := fun i hi => if_neg hi
  have hSj : shU (sS τ) j (ci + 10, 0) j = (ci + 10, 0) := if_pos rfl
  have hlv : ∀ t, (sS τ t).1 < 10 ∨ (sS τ t).2 = 0 → shU (sS τ) j (ci + 10, 0) t = sS τ t := fun t ht => hS' t (fun q => by rw [q, hsh] at ht; simp at ht; omega)
  obtain ⟨w1, w2, w3, w4⟩ := hS.1
  have hT : gT (shU (sS τ) j (ci + 10, 0)) σ := by
    refine ⟨fun i c' hi k => ?_, fun i a n hi h5 h8 k t ht => ?_, fun i c' z hi k t ht => ?_, fun i => ?_⟩
    · by_cases hij : i = j
      · subst hij
        have : c' = ci := by
          have := congrArg Prod.fst (hi.symm.trans hSj)
          simp at this
          exact this
        subst this
        by_cases hk : k < N
        · refine ⟨fun hf t ht => ?_, fun n hf => ?_⟩
          · rw [(hcond k hk).1 hf] at ht; cases ht
          · have q := ((hcond k hk).2 n hf).2
            rw [hlv _ (by rw [q]; exact shF_z hf)]
            exact q
        · have := hN k (by omega)
          exact ⟨fun hf => by omega, fun n hf => by omega⟩
      · rw [hS' i hij] at hi
        refine ⟨fun hf t ht => ?_, fun n hf => ?_⟩
        · have q := (w4.1 i c' hi k).1 hf t ht
          rw [hlv t (okL_z q)]
          exact q
        · have q := (w4.1 i c' hi k).2 n hf
          rw [hlv _ (by rw [q]; exact shF_z hf)]
          exact q
    · have hij : i ≠ j := fun q => by
        rw [q, hSj] at hi
        have := congrArg Prod.fst hi
        simp at this
        omega
      rw [hS' i hij] at hi
      have q := w4.2.1 i a n hi h5 h8 k t ht
      rw [hlv t (Or.inr (by rw [q]; exact elK_z a))]
      exact q
    · have hij : i ≠ j := fun q => by
        rw [q, hSj] at hi
        have := congrArg Prod.snd hi
        simp at this
      rw [hS' i hij] at hi
      have q := w4.2.2.1 i c' z hi k t ht
      by_cases htj : t = j
      · rw [htj, hSj]; exact Nat.succ_ne_zero _
      · rw [hS' t htj]; exact q
    · by_cases hij : i = j
      · rw [hij, hSj]
        constructor <;> (show ci + 10 ≠ _; omega)
      · rw [hS' i hij]; exact w4.2.2.2 i
  have hlive : ∀ i, (shU (sS τ) j (ci + 10, 0) i).1 ≠ 0 → (sS τ i).1 ≠ 0 := fun i hi => by
    by_cases hij : i = j
    · rw [hij, hsh]; exact Nat.succ_ne_zero _
    · rw [hS' i hij] at hi; exact hi
  refine kk (reS τ j (ci + 10, 0)) ⟨fun _ _ => rfl, fun i hi hz => hlv i (by rcases hz with q | q; exact Or.inr q; exact Or.inl q), fun i hi => ?_⟩ hSj ⟨⟨fun i e' hi => ?_, fun a b ha hb => w2 a b (hlive a ha) (hlive b hb), fun a ha => w3 a (hlive a ha), hT⟩, hS.2⟩ B h
  · by_cases hij : i = j
    · rw [hij]; show (shU (sS τ) j (ci + 10, 0) j).1 ≠ 0; rw [hSj]; exact Nat.succ_ne_zero _
    · show (shU (sS τ) j (ci + 10, 0) i).1 ≠ 0; rw [hS' i hij]; exact hi
  · by_cases hij : i = j
    · subst hij
      have hi' : gC D.2.1 ad (shU (sS τ) i (ci + 10, 0)) σ i = some (.inr (ci, gV ad σ i ci)) := gC_o hSj
      cases hi'.symm.trans hi
      obtain ⟨q, h1, h2⟩ := w1 i _ (gC_r hsh)
      have hq : q = (Cn, T, N) := Option.some.inj (h1.symm.trans K.1)
      subst hq
      refine ⟨_, K.1, h2.to (fun k hk => ?_)⟩
      show gVr ad σ i ci k = gV ad σ i ci k
      unfold gVr gV
      cases hf : fk ci k with
      | zero => rfl
      | succ n =>
        cases n with
        | zero => rfl
        | succ n =>
          have q := ((hcond k hk).2 n hf).1
          simp only [q]
          rfl
    · have : gC D.2.1 ad (shU (sS τ) j (ci + 10, 0)) σ i = gC D.2.1 ad (sS τ) σ i := by unfold gC; rw [hS' i hij]
      exact w1 i e' (this.symm.trans hi)
/-- a reference goes into an array -/
theorem h_aast {a n t : Nat} {j : Int32} {f : Mem → Option ρ} (Z : Cz D (Ew D A) A cc nL ret own p s m args meth c) (hS : St D A ad S σ s.heap H locs) (hsh : S i = (a, n)) (h5 : 5 ≤ a) (h8 : a < 8) (ht : S t = elK a) (hd : decode cc pc = .ok (.aastore, 1)) (h : wrR σ i n j (some t) f = some r)
    (kk : ∀ (σ' : Mem) (H1 : Heap) (locs1 : List Loc), St D A ad S σ' s.heap H1 locs1 → f σ' = some r → W p l e R s m args below meth c H1 locs1 cells slots Q (F0 m (pc + 1) ls rest)) : W p l e R s m args below meth c H locs cells slots Q (F0 m pc ls (.ref (ad t) :: .int j :: .ref (ad i) :: rest)) := by
  obtain ⟨hin, h⟩ := gd_el h
  have hin := inb_in hin
  obtain ⟨hx, hb, -, -, -, hown, hts, hK, -⟩ := Z
  have h0 : ¬ j < 0 := fun q => hin (Or.inl q)
  have hlt : j.toNatClampNeg < n := Nat.not_le.mp fun q => hin (Or.inr q)
  obtain ⟨ci, hci, r0, hr0, hr1⟩ : ∃ ci, elK a = (ci + 10, 0) ∧ ∃ r0 : vw_C, vwCl[ci]? = some r0 ∧ r0.1 = elC a := by
    rcases (show a = 5 ∨ a = 6 ∨ a = 7 by omega) with rfl | rfl | rfl
    · exact ⟨2, rfl, _, rfl, rfl⟩
    · exact ⟨4, rfl, _, rfl, rfl⟩
    · exact ⟨13, rfl, _, rfl, rfl⟩
  rw [hci] at ht
  obtain ⟨r', hr', cellV, g1, g2, g3, -⟩ := hS.1.1 t _ (gC_o ht)
  have hcls := (hK.1.1 ci r0 hr0).2
  obtain ⟨kA, comp, k1, k2, k3, -⟩ := (hK.1.2 (a - 1) _ (tys_a h5 h8)).2
  rw [← hr1] at k3
  have hcomp : comp = D.1.1 ci := Option.some.inj (k3.symm.trans hcls.1)
  subst hcomp
  obtain ⟨kC, hkC, -⟩ := hcls.2
  refine W.aast hx hb (hS.1.1 i _ (gC_a hsh h5 h8)) (fun q h => by cases h) (fun h => by cases h) k1 k2 rfl hkC ⟨h0, by show _ < (arrV _ _ _).slots.size; rw [arrV_size]; exact hlt⟩ g1 (fun q h => by rw [g3] at h; cases h) (by rw [g2]; exact hkC) (by rw [g2]; exact va_assign hcls) rfl rfl hd fun H1 e z oq => ?_
  refine kk (setR σ i j.toNatClampNeg (some t)) H1 _ ⟨hS.1.upd (gC_a hsh h5 h8) gC_setR (gT_setR hS.1.2.2.2 (fun ci' hc _ _ _ => ?_) (fun a' n' hc _ _ q hq => ?_) (fun ci' z hc _ _ => ?_)) ?_ oq, hS.2.put z oq (hS.1.2.2.1 i (by rw [hsh]; show a ≠ 0; omega))⟩ h
  · rw [hsh] at hc; have := congrArg Prod.fst hc; simp at this; omega
  · cases hq
    rw [hsh] at hc
    have : a' = a := (congrArg Prod.fst hc).symm
    rw [this, ht, hci]
  · rw [hsh] at hc; have := congrArg Prod.fst hc; simp at this; omega
  · show H1[ad i]? = some (vp_cell _ _)
    rw [e, vp_cell_q, vp_cell_q, arrV_store]
    congr 2
    funext q
    by_cases hq : q = j.toNatClampNeg
    · subst hq
      simp [updV, mR_setR, va_rf]
    · simp [updV, mR_setR, hq]
/-- System.arraycopy of ints -/
theorem h_copy {idx i n0 j n1 : Nat} {sp dp n : Int32} {f : Mem → Option ρ} (Z : Cz D (Ew D A) A cc nL ret own p s m args meth c) (hS : St D A ad S σ s.heap H locs) (h1 : S i = (1, n0)) (h2 : S j = (1, n1)) (hl : Cond.methodLink own idx arraycopyName ∈ lw_all) (hnat : Cond.native arraycopyName ∈ lw_all) (hstat : Cond.static arraycopyName ∈ lw_all) (hini : Cond.initialized "java/lang/System" ∈ lw_all) (hsz : ls.size = nL) (hfr : 1 ≤ R.frames) (hlo : (rest.map fun v => v.category).sum + (nativeFrameWords "java/lang/System" "arraycopy" 5 + 11) ≤ R.locals) (hd : decode cc pc = .ok (.invokestatic idx, 3)) (h : copyI σ i n0 sp j n1 dp n f = some r)
    (kk : ∀ (σ' : Mem) (H1 : Heap) (locs1 : List Loc), St D A ad S σ' s.heap H1 locs1 → f σ' = some r → W p l e R s m args below meth c H1 locs1 cells slots Q (F0 m (pc + 3) ls rest)) : W p l e R s m args below meth c H locs cells slots Q (F0 m pc ls (.int n :: .int dp :: .ref (ad j) :: .int sp :: .ref (ad i) :: rest)) := by
  obtain ⟨hg, h⟩ := gd_el h
  simp only [Bool.and_eq_true, decide_eq_true_eq] at hg
  obtain ⟨b1, b2, b3, b4, b5⟩ := hg
  have hts := Z.2.2.2.2.2.2.1
  have hK := Z.2.2.2.2.2.2.2.1.1
  have nn : ∀ z : Int32, ¬ z < 0 → z.toInt = (z.toNatClampNeg : Int) := by
    intro z hz
    have hz0 : (0 : Int) ≤ z.toInt := by
      have := Int32.not_lt.mp hz
      simpa using Int32.le_iff_toInt_le.mp this
    show z.toInt = ((z.toInt.toNat : Nat) : Int)
    omega
  intro T hT X
  have hc0 : H[ad i]? = some (vp_cell (D.2.1 1) (n0, .inl (mI σ i))) := hS.1.1 i _ (gC_1 h1)
  have hc1 : H[ad j]? = some (vp_cell (D.2.1 1) (n1, .inl (mI σ j))) := hS.1.1 j _ (gC_1 h2)
  obtain ⟨-, k0, hk0, cm0, hkk0⟩ := (hK.2 0 _ rfl).1 n0 (fun q => .int (mI σ i q))
  obtain ⟨vm', X', step⟩ := X.arraycopy Z.1 Z.2.2.2.2.2.1 (hts _ hl) (hts _ hnat) (hts _ hstat) (hts _ hini) (src := ad i) (dst := ad j) (cs := vp_cell (D.2.1 1) (n0, .inl (mI σ i))) (cd := vp_cell (D.2.1 1) (n1, .inl (mI σ j))) (srcPos := sp) (destPos := dp) (n := n) (by rw [hT]; exact hc0) (by rw [hT]; exact hc1)
    (fun _ h => by cases h) (fun _ h => by cases h) (fun h => by cases h) (fun h => by cases h) hk0 hk0 hkk0 hkk0 (by simp [refKind]) b1 b2 b3
    (by rw [nn sp b1, nn n b3]; show ¬ _ > ((arrV (D.2.1 1) n0 (fun q => .int (mI σ i q))).slots.size : Int); rw [arrV_size]; omega)
    (by rw [nn dp b2, nn n b3]; show ¬ _ > ((arrV (D.2.1 1) n1 (fun q => .int (mI σ j q))).slots.size : Int); rw [arrV_size]; omega)
    (fun vm₁ _ q hq => by
      have e : (vp_cell (D.2.1 1) (n0, .inl (mI σ i))).slots.getD (sp.toNatClampNeg + q) .null = .int (mI σ i (sp.toNatClampNeg + q)) := by
        show (arrV (D.2.1 1) n0 (fun q => .int (mI σ i q))).slots.getD _ _ = _
        rw [Array.getD_eq_getD_getElem?, arrV_read _ _ (by omega)]
        rfl
      refine ⟨?_, ?_⟩
      · rw [e]; rfl
      · rw [e]
        exact trivial)
    (g := F0 m pc ls (.int n :: .int dp :: .ref (ad j) :: .int sp :: .ref (ad i) :: rest)) rfl (by rw [Z.2.2.2.2.1]; exact hsz) (rest := rest) rfl (by rw [Z.2.1]; exact hd) hfr (by show 2 * 0 + _ + _ ≤ _; omega)
  have e1 : copied (vp_cell (D.2.1 1) (n0, .inl (mI σ i))) (vp_cell (D.2.1 1) (n1, .inl (mI σ j))) sp dp n = vp_cell (D.2.1 1) (n1, .inl (va_cpy (mI σ i) (mI σ j) sp.toNatClampNeg dp.toNatClampNeg n.toNatClampNeg)) := va_copied (fun z => .int z) _ _ _ _ b4
  rw [e1] at X' step
  have hlt : ad j < H.size := (Array.getElem?_eq_some_iff.mp hc1).1
  have oq : ∀ q : Nat, q ≠ ad j → (H.setIfInBounds (ad j) (vp_cell (D.2.1 1) (n1, .inl (va_cpy (mI σ i) (mI σ j) sp.toNatClampNeg dp.toNatClampNeg n.toNatClampNeg))))[q]? = H[q]? := fun q hq => by simp [Array.getElem?_setIfInBounds, Ne.symm hq]
  have hAj : A (ad j) := hS.1.2.2.1 j (by rw [h2]; exact Nat.succ_ne_zero _)
  have hne : ∀ q, q ≠ j → mI (cpyI σ i j sp.toNatClampNeg dp.toNatClampNeg n.toNatClampNeg) q = mI σ q := fun q hq => by funext b; exact if_neg hq
  have hself : mI (cpyI σ i j sp.toNatClampNeg dp.toNatClampNeg n.toNatClampNeg) j = va_cpy (mI σ i) (mI σ j) sp.toNatClampNeg dp.toNatClampNeg n.toNatClampNeg := by funext b; exact if_pos rfl
  obtain ⟨t, a1, q1⟩ := kk (cpyI σ i j sp.toNatClampNeg dp.toNatClampNeg n.toNatClampNeg) (H.setIfInBounds (ad j) (vp_cell (D.2.1 1) (n1, .inl (va_cpy (mI σ i) (mI σ j) sp.toNatClampNeg dp.toNatClampNeg n.toNatClampNeg)))) _
    ⟨hS.1.upd (gC_1 h2) (fun q hq => gC_same (hne q hq) rfl rfl) hS.1.2.2.2 (by
      show (H.setIfInBounds (ad j) _)[ad j]? = some (vp_cell _ _)
      rw [hself]
      simp [Array.getElem?_setIfInBounds, hlt]) oq, ⟨by simp; exact hS.2.1, fun q g1 g2 => by
      rw [oq q (fun e => g2 (by rw [e]; exact hAj))]
      exact hS.2.2.1 q g1 g2, fun q hq => by
      rcases List.mem_append.mp hq with h | h
      · exact hS.2.2.2 q h
      · obtain ⟨z, -, hz⟩ := List.mem_map.mp h
        rw [← hz]
        exact hAj⟩⟩ h _ (by rw [← hT]; rfl) X'
  exact ⟨t, step t a1, q1⟩
end A3
