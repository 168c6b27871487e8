/-! ===== making objects: shapes, a counter of ids, what has been made ===== -/
abbrev Shp : Type := (Nat → Nat × Nat) × Nat × Nat × Nat
def sS (τ : Shp) : Nat → Nat × Nat := τ.1
def sN (τ : Shp) : Nat := τ.2.1
def sC (τ : Shp) : Nat := τ.2.2.1
def sL (τ : Shp) : Nat := τ.2.2.2
def LCl : Nat := 1201024
def LSl : Nat := 5493034
def shU (S : Nat → Nat × Nat) (j : Nat) (sh : Nat × Nat) : Nat → Nat × Nat := fun i => if i = j then sh else S i
def alc (τ : Shp) (j : Nat) (sh : Nat × Nat) (N : Nat) : Shp := (shU τ.1 j sh, τ.2.1, τ.2.2.1 + 1, τ.2.2.2 + N)
def bump (τ : Shp) : Shp := (τ.1, τ.2.1 + 1, τ.2.2)
def reS (τ : Shp) (j : Nat) (sh : Nat × Nat) : Shp := (shU τ.1 j sh, τ.2)
def clr (σ : Mem) (j : Nat) : Mem := (fun a b => if a = j then 0 else σ.1 a b, fun a b => if a = j then 0 else σ.2.1 a b, fun a b => if a = j then none else σ.2.2 a b)
theorem mI_clr (σ : Mem) (j a b : Nat) : mI (clr σ j) a b = if a = j then 0 else mI σ a b := rfl
theorem mL_clr (σ : Mem) (j a b : Nat) : mL (clr σ j) a b = if a = j then 0 else mL σ a b := rfl
theorem mR_clr (σ : Mem) (j a b : Nat) : mR (clr σ j) a b = if a = j then none else mR σ a b := rfl
theorem clr_ne {σ : Mem} {j a : Nat} (h : a ≠ j) : mI (clr σ j) a = mI σ a ∧ mL (clr σ j) a = mL σ a ∧ mR (clr σ j) a = mR σ a := by
  refine ⟨funext fun b => ?_, funext fun b => ?_, funext fun b => ?_⟩
  · rw [mI_clr, if_neg h]
  · rw [mL_clr, if_neg h]
  · rw [mR_clr, if_neg h]
def newO {β : Type} (σ : Mem) (τ : Shp) (j : Nat) (sh : Nat × Nat) (N : Nat) (f : Mem → Shp → Option β) : Option β := gd (decide ((sS τ j).1 = 0)) (gd (decide (sC τ + 1 ≤ LCl)) (gd (decide (sL τ + N ≤ LSl)) (f (clr σ j) (alc τ j sh N))))
def newD {β : Type} (σ : Mem) (τ : Shp) (ci N : Nat) (f : Mem → Shp → Nat → Option β) : Option β := newO σ τ (sN τ) (ci + 10, 0) N (fun σ' τ' => f σ' (bump τ') (sN τ))
theorem newO_el {β : Type} {σ : Mem} {τ : Shp} {j : Nat} {sh : Nat × Nat} {N : Nat} {f : Mem → Shp → Option β} {r : β} (h : newO σ τ j sh N f = some r) : (sS τ j).1 = 0 ∧ sC τ + 1 ≤ LCl ∧ sL τ + N ≤ LSl ∧ f (clr σ j) (alc τ j sh N) = some r := by
  obtain ⟨h1, h⟩ := gd_el h
  obtain ⟨h2, h⟩ := gd_el h
  obtain ⟨h3, h⟩ := gd_el h
  exact ⟨of_decide_eq_true h1, of_decide_eq_true h2, of_decide_eq_true h3, h⟩
def Bd (c0 s0 : Nat) (R : Room) (τ : Shp) (cl sl : Nat) : Prop := cl + c0 = sC τ ∧ sl + s0 = sL τ ∧ R.cells + c0 = LCl ∧ R.slots + s0 = LSl ∧ sC τ ≤ LCl ∧ sL τ ≤ LSl
theorem Bd.cl {c0 s0 : Nat} {R : Room} {τ : Shp} {cl sl : Nat} (B : Bd c0 s0 R τ cl sl) : cl ≤ R.cells := by obtain ⟨h1, h2, h3, h4, h5, h6⟩ := B; omega
theorem Bd.sl {c0 s0 : Nat} {R : Room} {τ : Shp} {cl sl : Nat} (B : Bd c0 s0 R τ cl sl) : sl ≤ R.slots := by obtain ⟨h1, h2, h3, h4, h5, h6⟩ := B; omega
def Xt (τ τ' : Shp) : Prop := ∀ i, (sS τ i).1 ≠ 0 → (sS τ i).2 = 0 ∨ (sS τ i).1 < 10 → sS τ' i = sS τ i
def Ag (τ : Shp) (ad ad' : Nat → Nat) : Prop := ∀ i, (sS τ i).1 ≠ 0 → ad' i = ad i
def Lv (τ τ' : Shp) : Prop := ∀ i, (sS τ i).1 ≠ 0 → (sS τ' i).1 ≠ 0
def adU (ad : Nat → Nat) (j a : Nat) : Nat → Nat := fun i => if i = j then a else ad i
/-! tables: no listed shape is empty -/
theorem okT_ok : (okT.all fun r => r.all fun l => l.all fun sh => sh.1 != 0) = true := by decide +kernel
theorem okL_live {ci k : Nat} {sh : Nat × Nat} (h : sh ∈ okL ci k) : sh.1 ≠ 0 := by
  unfold okL at h
  rw [List.getD_eq_getElem?_getD, List.getD_eq_getElem?_getD] at h
  cases h1 : okT[ci]? with
  | none => rw [h1] at h; simp at h
  | some r =>
    rw [h1] at h
    simp only [Option.getD_some] at h
    cases h2 : r[k]? with
    | none => rw [h2] at h; simp at h
    | some l =>
      rw [h2] at h
      simp only [Option.getD_some] at h
      have := okT_ok
      rw [List.all_eq_true] at this
      have := this r (List.mem_of_getElem? h1)
      rw [List.all_eq_true] at this
      have := this l (List.mem_of_getElem? h2)
      rw [List.all_eq_true] at this
      simpa using this sh h
theorem shF_tab : ∀ ci, ci < 17 → ∀ k, k < 64 → 2 ≤ fk ci k → (shF ci k).1 ≠ 0 := by decide +kernel
theorem fk_out {ci k : Nat} (h : ¬ (ci < 17 ∧ k < 64)) : fk ci k = 0 := by
  unfold fk
  rw [List.getD_eq_getElem?_getD, List.getD_eq_getElem?_getD]
  by_cases hc : ci < 17
  · have hk : 64 ≤ k := by omega
    have : ∀ ci, ci < 17 → ((fkT[ci]?).getD []).length ≤ 63 := by decide +kernel
    have := this ci hc
    rw [List.getElem?_eq_none (by omega)]
    rfl
  · rw [List.getElem?_eq_none (l := fkT) (by show 17 ≤ ci; omega)]
    rfl
theorem shF_live {ci k n : Nat} (h : fk ci k = n + 2) : (shF ci k).1 ≠ 0 := by
  by_cases hb : ci < 17 ∧ k < 64
  · exact shF_tab ci hb.1 k hb.2 (by omega)
  · rw [fk_out hb] at h; omega
theorem elK_live (a : Nat) : (elK a).1 ≠ 0 := by
  unfold elK
  split
  · decide
  · split <;> decide
theorem gC_r {d : Nat → ClassId} {ad : Nat → Nat} {S : Nat → Nat × Nat} {σ : Mem} {i c z : Nat} (h : S i = (c + 10, z + 1)) : gC d ad S σ i = some (.inr (c, gVr ad σ i c)) := by unfold gC; rw [h]
/-! the world grows by one cell -/
theorem gC_grow {d : Nat → ClassId} {ad : Nat → Nat} {S : Nat → Nat × Nat} {σ σ' : Mem} {i j a : Nat} {sh : Nat × Nat} (hT : gT S σ) (hj : (S j).1 = 0) (hi : i ≠ j) (h1 : mI σ' i = mI σ i) (h2 : mL σ' i = mL σ i) (h3 : mR σ' i = mR σ i) : gC d (adU ad j a) (shU S j sh) σ' i = gC d ad S σ i := by
  have hs : shU S j sh i = S i := if_neg hi
  have hne : ∀ t, (S t).1 ≠ 0 → adU ad j a t = ad t := fun t ht => if_neg (fun q => ht (by rw [q]; exact hj))
  have hm : ∀ o : Option Nat, (∀ t, o = some t → (S t).1 ≠ 0) → o.map (adU ad j a) = o.map ad := fun o ho => by
    cases o with
    | none => rfl
    | some t => exact congrArg some (hne t (ho t rfl))
  unfold gC
  rw [hs, h1, h2, h3]
  split
  · rfl
  · rfl
  · rfl
  · rfl
  · rfl
  · rename_i n hsi
    have : (fun k => (mR σ i k).map (adU ad j a)) = fun k => (mR σ i k).map ad := funext fun k => hm _ fun t ht => by rw [hT.2.1 i 5 n hsi (by decide) (by decide) k t ht]; exact elK_live 5
    rw [this]
  · rename_i n hsi
    have : (fun k => (mR σ i k).map (adU ad j a)) = fun k => (mR σ i k).map ad := funext fun k => hm _ fun t ht => by rw [hT.2.1 i 6 n hsi (by decide) (by decide) k t ht]; exact elK_live 6
    rw [this]
  · rename_i n hsi
    have : (fun k => (mR σ i k).map (adU ad j a)) = fun k => (mR σ i k).map ad := funext fun k => hm _ fun t ht => by rw [hT.2.1 i 7 n hsi (by decide) (by decide) k t ht]; exact elK_live 7
    rw [this]
  · rfl
  · rfl
  · rename_i c hsi
    have : gV (adU ad j a) σ' i c = gV ad σ i c := by
      funext k
      unfold gV
      rw [h1, h3]
      split
      · rfl
      · rename_i hf
        rw [hm _ fun t ht => okL_live ((hT.1 i c hsi k).1 hf t ht)]
      · rename_i n hf
        rw [hne _ (by rw [(hT.1 i c hsi k).2 n hf]; exact shF_live hf)]
    rw [this]
  · rename_i c z hsi
    have : gVr (adU ad j a) σ' i c = gVr ad σ i c := by
      funext k
      unfold gVr
      rw [h1, h3]
      split
      · rfl
      · rw [hm _ fun t ht => hT.2.2.1 i c z hsi k t ht]
    rw [this]
theorem gT_grow {S : Nat → Nat × Nat} {σ σ' : Mem} {j : Nat} {sh : Nat × Nat} (h : gT S σ) (hj : (S j).1 = 0) (hσ : ∀ i, i ≠ j → mR σ' i = mR σ i) (hz : ∀ k, mR σ' j k = none) (hnc : ∀ ci, sh = (ci + 10, 0) → ∀ k, fk ci k < 2) (h8 : sh.1 ≠ 8 ∧ sh.1 ≠ 9) : gT (shU S j sh) σ' := by
  have hlv : ∀ t, (S t).1 ≠ 0 → shU S j sh t = S t := fun t ht => if_neg (fun q => ht (by rw [q]; exact hj))
  refine ⟨fun i ci hi k => ?_, fun i a n hi h5 h8 k t ht => ?_, fun i ci z hi k t ht => ?_, fun i => ?_⟩
  · by_cases hij : i = j
    · subst hij
      have hsh : sh = (ci + 10, 0) := by rw [← hi]; exact (if_pos rfl).symm
      refine ⟨fun hf t ht => ?_, fun n hf => ?_⟩
      · rw [hz] at ht; cases ht
      · have := hnc ci hsh k; omega
    · have hi' : S i = (ci + 10, 0) := by rw [← hi]; exact (if_neg hij).symm
      refine ⟨fun hf t ht => ?_, fun n hf => ?_⟩
      · rw [hσ i hij] at ht
        have := (h.1 i ci hi' k).1 hf t ht
        rw [hlv t (okL_live this)]
        exact this
      · have := (h.1 i ci hi' k).2 n hf
        rw [hlv _ (by rw [this]; exact shF_live hf)]
        exact this
  · by_cases hij : i = j
    · subst hij
      rw [hz] at ht; cases ht
    · have hi' : S i = (a, n) := by rw [← hi]; exact (if_neg hij).symm
      rw [hσ i hij] at ht
      have := h.2.1 i a n hi' h5 h8 k t ht
      rw [hlv t (by rw [this]; exact elK_live a)]
      exact this
  · by_cases hij : i = j
    · subst hij
      rw [hz] at ht; cases ht
    · have hi' : S i = (ci + 10, z + 1) := by rw [← hi]; exact (if_neg hij).symm
      rw [hσ i hij] at ht
      have := h.2.2.1 i ci z hi' k t ht
      rw [hlv t this]
      exact this
  · by_cases hij : i = j
    · subst hij
      rw [show shU S i sh i = sh from if_pos rfl]
      exact h8
    · rw [show shU S j sh i = S i from if_neg hij]
      exact h.2.2.2 i
theorem gC_some {d : Nat → ClassId} {ad : Nat → Nat} {S : Nat → Nat × Nat} {σ : Mem} {i : Nat} (hT : gT S σ) (h : (S i).1 ≠ 0) : ∃ e, gC d ad S σ i = some e := by
  have h8 := hT.2.2.2 i
  unfold gC
  split
  · rename_i hs; rw [hs] at h; exact absurd rfl h
  all_goals first | exact ⟨_, rfl⟩ | (rename_i hs; rw [hs] at h8; exact absurd rfl h8.1) | (rename_i hs; rw [hs] at h8; exact absurd rfl h8.2)
theorem gW_grow {D : gD} {A : Nat → Prop} {ad : Nat → Nat} {S : Nat → Nat × Nat} {σ σ' : Mem} {H H1 : Heap} {j : Nat} {sh : Nat × Nat} {e : gE} (h : gW D A ad S σ H) (hj : (S j).1 = 0) (hq : ∀ q, q < H.size → H1[q]? = H[q]?) (hA : A H.size)
    (hσ : ∀ i, i ≠ j → mI σ' i = mI σ i ∧ mL σ' i = mL σ i ∧ mR σ' i = mR σ i) (hT : gT (shU S j sh) σ') (hc : gC D.2.1 (adU ad j H.size) (shU S j sh) σ' j = some e) (hat : gat D.1 H.size e H1) : gW D A (adU ad j H.size) (shU S j sh) σ' H1 := by
  have hlt : ∀ i, (S i).1 ≠ 0 → ad i < H.size := fun i hi => by
    obtain ⟨e', he'⟩ := gC_some (d := D.2.1) (ad := ad) h.2.2.2 hi
    exact (h.1 i e' he').lt
  have hb : ∀ i, i ≠ j → (shU S j sh i).1 ≠ 0 → (S i).1 ≠ 0 := fun i hi hl => by rw [show shU S j sh i = S i from if_neg hi] at hl; exact hl
  have hself : adU ad j H.size j = H.size := if_pos rfl
  have hoth : ∀ i, i ≠ j → adU ad j H.size i = ad i := fun i hi => if_neg hi
  refine ⟨fun i e' hi => ?_, fun i k hi hk hik => ?_, fun i hi => ?_, hT⟩
  · by_cases hij : i = j
    · subst hij
      cases hc.symm.trans hi
      rw [hself]
      exact hat
    · rw [gC_grow h.2.2.2 hj hij (hσ i hij).1 (hσ i hij).2.1 (hσ i hij).2.2] at hi
      rw [hoth i hij]
      exact (h.1 i e' hi).kept (hq _ (h.1 i e' hi).lt)
  · by_cases hij : i = j
    · by_cases hkj : k = j
      · rw [hij, hkj]
      · rw [hij, hself, hoth k hkj] at hik
        exact absurd (hlt k (hb k hkj hk)) (by rw [← hik]; exact Nat.lt_irrefl _)
    · by_cases hkj : k = j
      · rw [hkj, hself, hoth i hij] at hik
        exact absurd (hlt i (hb i hij hi)) (by rw [hik]; exact Nat.lt_irrefl _)
      · rw [hoth i hij, hoth k hkj] at hik
        exact h.2.1 i k (hb i hij hi) (hb k hkj hk) hik
  · by_cases hij : i = j
    · rw [hij, hself]; exact hA
    · rw [hoth i hij]
      exact h.2.2.1 i (hb i hij hi)
theorem alc_Xt {τ : Shp} {j N : Nat} {sh : Nat × Nat} (h : (sS τ j).1 = 0) : Xt τ (alc τ j sh N) ∧ Lv τ (alc τ j sh N) := by
  have hne : ∀ i, (sS τ i).1 ≠ 0 → sS (alc τ j sh N) i = sS τ i := fun i hi => if_neg (fun q => hi (by rw [q]; exact h))
  exact ⟨fun i hi _ => hne i hi, fun i hi => by rw [hne i hi]; exact hi⟩
theorem adU_Ag {τ : Shp} {ad : Nat → Nat} {j a : Nat} (h : (sS τ j).1 = 0) : Ag τ ad (adU ad j a) := fun i hi => if_neg (fun q => hi (by rw [q]; exact h))
theorem va_S_grow {A : Nat → Prop} {H0 H H1 : Heap} {locs : List Loc} (h : va_S A H0 H locs) (hz : H1.size = H.size + 1) (hq : ∀ q, q < H.size → H1[q]? = H[q]?) : va_S A H0 H1 locs :=
  ⟨Nat.le_trans h.1 (by omega), fun q h1 h2 => (hq q (Nat.lt_of_lt_of_le h1 h.1)).trans (h.2.1 q h1 h2), h.2.2⟩
/-- default values by the table -/
def DV (ci N : Nat) (ty : Nat → FieldType) : Prop := ∀ k, k < N → defaultValue (ty k) = if fk ci k = 0 then .int 0 else .null
section AR
variable {p : Program} {l : Launch} {e : Env} {R : Room} {s : State} {m : MethodId} {args : Array Value} {below : List Frame} {meth : Method} {c : Code} {H : Heap} {locs : List Loc} {cl sl c0 s0 : Nat} {Q : State → Prop}
variable {cc : ByteArray} {nL : Nat} {ret : Option FieldType} {pc : Nat} {ls : Array Slot} {rest : List Value} {D : gD} {A : Nat → Prop} {ad : Nat → Nat} {τ : Shp} {σ : Mem} {own : String} {i : Nat} {ρ : Type} {r : ρ}
/-- an object is made, at the id j, cooked (z = 0) or raw (z = 1) -/
theorem a_newO {idx ci N j z : Nat} {Cn : String} {T : u_T} {ty : Nat → FieldType} {f : Mem → Shp → Option ρ} (Z : Cz D (Ew D A) A cc nL ret own p s m args meth c) (hS : St D A ad (sS τ) σ s.heap H locs) (B : Bd c0 s0 R τ cl sl) (K : CLS ci Cn T N ty) (hdv : DV ci N ty) (hnc : z = 0 → ∀ k, fk ci k < 2) (h1 : Cond.classLink own idx Cn ∈ lw_all) (h2 : Cond.instantiable Cn N ∈ lw_all) (h3 : Cond.initialized Cn ∈ lw_all) (hd : decode cc pc = .ok (.new idx, 3)) (h : newO σ τ j (ci + 10, z) N f = some r)
    (kk : ∀ (ad' : Nat → Nat) (σ' : Mem) (τ' : Shp) (H1 : Heap), Ag τ ad ad' → Xt τ τ' → Lv τ τ' → sS τ' j = (ci + 10, z) → sN τ' = sN τ → St D A ad' (sS τ') σ' s.heap H1 locs → Bd c0 s0 R τ' (cl + 1) (sl + N) → f σ' τ' = some r → W p l e R s m args below meth c H1 locs (cl + 1) (sl + N) Q (F0 m (pc + 3) ls (.ref (ad' j) :: rest))) : W p l e R s m args below meth c H locs cl sl Q (F0 m pc ls rest) := by
  obtain ⟨g1, g2, g3, h⟩ := newO_el h
  obtain ⟨hx, hb, -, -, -, hown, hts, hK, hA, -⟩ := Z
  have hKn := hK.1.1 ci _ K.1
  have hsj : sS (alc τ j (ci + 10, z) N) j = (ci + 10, z) := if_pos rfl
  refine W.newcK hx hb hown (hts _ h1) (hts _ h2) (hts _ h3) rfl hd (by obtain ⟨b1, b2, b3, b4, b5, b6⟩ := B; omega) (by obtain ⟨b1, b2, b3, b4, b5, b6⟩ := B; omega) hKn.2.1 rfl fun H1 kC hkC e1 z1 o1 => ?_
  have hself : adU ad j H.size j = H.size := if_pos rfl
  have hzr : ∀ k, mR (clr σ j) j k = none := fun k => by rw [mR_clr, if_pos rfl]
  have hzi : ∀ k, mI (clr σ j) j k = 0 := fun k => by rw [mI_clr, if_pos rfl]
  have hT : gT (shU (sS τ) j (ci + 10, z)) (clr σ j) := gT_grow hS.1.2.2.2 g1 (fun i hi => (clr_ne hi).2.2) hzr (fun ci' hc k => by
    have q1 := congrArg Prod.fst hc
    have q2 := congrArg Prod.snd hc
    simp at q1 q2
    subst q1
    exact hnc q2 k) (by constructor <;> (show ci + 10 ≠ _; omega))
  have hold : gW D A (adU ad j H.size) (shU (sS τ) j (ci + 10, z)) (clr σ j) H1 := by
    cases z with
    | zero =>
      refine gW_grow hS.1 g1 o1 (hA _ hS.2.1) (fun i hi => clr_ne hi) hT (gC_o (if_pos rfl)) ⟨_, K.1, ?_⟩
      refine (u_born ty hts K.2.1 hKn hkC e1 K.2.2.1).to (fun k hk => ?_)
      show defaultValue (ty k) = gV (adU ad j H.size) (clr σ j) j ci k
      rw [hdv k hk]
      unfold gV
      rw [hzi, hzr]
      have := hnc rfl k
      rcases (show fk ci k = 0 ∨ fk ci k = 1 by omega) with q | q <;> rw [q] <;> rfl
    | succ z =>
      refine gW_grow hS.1 g1 o1 (hA _ hS.2.1) (fun i hi => clr_ne hi) hT (gC_r (z := z) (if_pos rfl)) ⟨_, K.1, ?_⟩
      refine (u_born ty hts K.2.1 hKn hkC e1 K.2.2.1).to (fun k hk => ?_)
      show defaultValue (ty k) = gVr (adU ad j H.size) (clr σ j) j ci k
      rw [hdv k hk]
      unfold gVr
      rw [hzi, hzr]
      cases q : fk ci k <;> simp [q] <;> rfl
  have fin := kk (adU ad j H.size) (clr σ j) (alc τ j (ci + 10, z) N) H1 (adU_Ag g1) (alc_Xt g1).1 (alc_Xt g1).2 hsj rfl ⟨hold, va_S_grow hS.2 z1 o1⟩ (by obtain ⟨b1, b2, b3, b4, b5, b6⟩ := B; exact ⟨by show cl + 1 + c0 = sC τ + 1; omega, by show sl + N + s0 = sL τ + N; omega, b3, b4, g2, g3⟩) h
  rw [hself] at fin
  exact fin
theorem a_newD {idx ci N : Nat} {Cn : String} {T : u_T} {ty : Nat → FieldType} {f : Mem → Shp → Nat → Option ρ} (Z : Cz D (Ew D A) A cc nL ret own p s m args meth c) (hS : St D A ad (sS τ) σ s.heap H locs) (B : Bd c0 s0 R τ cl sl) (K : CLS ci Cn T N ty) (hdv : DV ci N ty) (hnc : ∀ k, fk ci k < 2) (h1 : Cond.classLink own idx Cn ∈ lw_all) (h2 : Cond.instantiable Cn N ∈ lw_all) (h3 : Cond.initialized Cn ∈ lw_all) (hd : decode cc pc = .ok (.new idx, 3)) (h : newD σ τ ci N f = some r)
    (kk : ∀ (ad' : Nat → Nat) (σ' : Mem) (τ' : Shp) (j : Nat) (H1 : Heap), Ag τ ad ad' → Xt τ τ' → Lv τ τ' → sS τ' j = (ci + 10, 0) → St D A ad' (sS τ') σ' s.heap H1 locs → Bd c0 s0 R τ' (cl + 1) (sl + N) → f σ' τ' j = some r → W p l e R s m args below meth c H1 locs (cl + 1) (sl + N) Q (F0 m (pc + 3) ls (.ref (ad' j) :: rest))) : W p l e R s m args below meth c H locs cl sl Q (F0 m pc ls rest) :=
  a_newO (z := 0) (j := sN τ) Z hS B K hdv (fun _ => hnc) h1 h2 h3 hd h (fun ad' σ' τ' H1 q1 q2 q3 q4 q5 q6 q7 q8 => kk ad' σ' (bump τ') (sN τ) H1 q1 q2 q3 q4 q6 q7 q8)
end AR
