set_option maxRecDepth 100000
/-! ===== small words for walks that make objects ===== -/
def isSh (S : Nat → Nat × Nat) (j : Nat) (l : List (Nat × Nat)) : Bool := decide (S j ∈ l)
theorem isSh_m {S : Nat → Nat × Nat} {j : Nat} {l : List (Nat × Nat)} (h : isSh S j l = true) : S j ∈ l := of_decide_eq_true h
theorem isSh_1 {S : Nat → Nat × Nat} {j : Nat} {sh : Nat × Nat} (h : isSh S j [sh] = true) : S j = sh := List.mem_singleton.mp (of_decide_eq_true h)
theorem W_stk {p : Program} {l : Launch} {e : Env} {R : Room} {s : State} {m : MethodId} {args : Array Value} {below : List Frame} {meth : Method} {c : Code} {H : Heap} {locs : List Loc} {cl sl : Nat} {Q : State → Prop} {pc : Nat} {ls : Array Slot} {st st' : List Value} (h : st = st') (k : W p l e R s m args below meth c H locs cl sl Q (F0 m pc ls st')) : W p l e R s m args below meth c H locs cl sl Q (F0 m pc ls st) := h ▸ k
theorem Gx.shm {τ τ' : Shp} {ad ad' : Nat → Nat} (g : Gx τ ad τ' ad') {i : Nat} {l : List (Nat × Nat)} (h : sS τ i ∈ l) (hl : ∀ sh ∈ l, sh.1 ≠ 0 ∧ sh.2 = 0) : sS τ' i ∈ l := by
  rw [g.2.1 i (hl _ h).1 (Or.inl (hl _ h).2)]
  exact h
theorem Gx.adm {τ τ' : Shp} {ad ad' : Nat → Nat} (g : Gx τ ad τ' ad') {i : Nat} {l : List (Nat × Nat)} (h : sS τ i ∈ l) (hl : ∀ sh ∈ l, sh.1 ≠ 0 ∧ sh.2 = 0) : ad' i = ad i := g.1 i (hl _ h).1
theorem Gx.adq {τ τ' : Shp} {ad ad' : Nat → Nat} (g : Gx τ ad τ' ad') {o : Option Nat} {l : List (Nat × Nat)} (h : ∀ t, o = some t → sS τ t ∈ l) (hl : ∀ sh ∈ l, sh.1 ≠ 0 ∧ sh.2 = 0) : o.map ad' = o.map ad := by
  cases o with
  | none => rfl
  | some t => exact congrArg some (g.adm (h t rfl) hl)
theorem dv_0 : DV 0 39 tyX1 := by unfold DV; decide +kernel
theorem nk_0 : ∀ k, 39 ≤ k → fk 0 k = 0 := by
  have q : ∀ k, k < 64 → 39 ≤ k → fk 0 k = 0 := by decide +kernel
  intro k hk
  by_cases h : k < 64
  · exact q k h hk
  · exact fk_out (fun z => h z.2)
theorem dv_1 : DV 1 3 tyX2 := by unfold DV; decide +kernel
theorem nk_1 : ∀ k, 3 ≤ k → fk 1 k = 0 := by
  have q : ∀ k, k < 64 → 3 ≤ k → fk 1 k = 0 := by decide +kernel
  intro k hk
  by_cases h : k < 64
  · exact q k h hk
  · exact fk_out (fun z => h z.2)
theorem dv_2 : DV 2 17 tyX3 := by unfold DV; decide +kernel
theorem nk_2 : ∀ k, 17 ≤ k → fk 2 k = 0 := by
  have q : ∀ k, k < 64 → 17 ≤ k → fk 2 k = 0 := by decide +kernel
  intro k hk
  by_cases h : k < 64
  · exact q k h hk
  · exact fk_out (fun z => h z.2)
theorem dv_3 : DV 3 1 tyX5 := by unfold DV; decide +kernel
theorem nk_3 : ∀ k, 1 ≤ k → fk 3 k = 0 := by
  have q : ∀ k, k < 64 → 1 ≤ k → fk 3 k = 0 := by decide +kernel
  intro k hk
  by_cases h : k < 64
  · exact q k h hk
  · exact fk_out (fun z => h z.2)
theorem dv_4 : DV 4 5 tyX7 := by unfold DV; decide +kernel
theorem nk_4 : ∀ k, 5 ≤ k → fk 4 k = 0 := by
  have q : ∀ k, k < 64 → 5 ≤ k → fk 4 k = 0 := by decide +kernel
  intro k hk
  by_cases h : k < 64
  · exact q k h hk
  · exact fk_out (fun z => h z.2)
theorem dv_5 : DV 5 4 tyX8 := by unfold DV; decide +kernel
theorem nk_5 : ∀ k, 4 ≤ k → fk 5 k = 0 := by
  have q : ∀ k, k < 64 → 4 ≤ k → fk 5 k = 0 := by decide +kernel
  intro k hk
  by_cases h : k < 64
  · exact q k h hk
  · exact fk_out (fun z => h z.2)
theorem nc_5 : ∀ k, fk 5 k < 2 := by
  have q : ∀ k, k < 64 → fk 5 k < 2 := by decide +kernel
  intro k
  by_cases h : k < 64
  · exact q k h
  · rw [fk_out (fun z => h z.2)]; decide
theorem dv_6 : DV 6 3 tyX10 := by unfold DV; decide +kernel
theorem nk_6 : ∀ k, 3 ≤ k → fk 6 k = 0 := by
  have q : ∀ k, k < 64 → 3 ≤ k → fk 6 k = 0 := by decide +kernel
  intro k hk
  by_cases h : k < 64
  · exact q k h hk
  · exact fk_out (fun z => h z.2)
theorem nc_6 : ∀ k, fk 6 k < 2 := by
  have q : ∀ k, k < 64 → fk 6 k < 2 := by decide +kernel
  intro k
  by_cases h : k < 64
  · exact q k h
  · rw [fk_out (fun z => h z.2)]; decide
theorem dv_7 : DV 7 1 tyX11 := by unfold DV; decide +kernel
theorem nk_7 : ∀ k, 1 ≤ k → fk 7 k = 0 := by
  have q : ∀ k, k < 64 → 1 ≤ k → fk 7 k = 0 := by decide +kernel
  intro k hk
  by_cases h : k < 64
  · exact q k h hk
  · exact fk_out (fun z => h z.2)
theorem nc_7 : ∀ k, fk 7 k < 2 := by
  have q : ∀ k, k < 64 → fk 7 k < 2 := by decide +kernel
  intro k
  by_cases h : k < 64
  · exact q k h
  · rw [fk_out (fun z => h z.2)]; decide
theorem dv_8 : DV 8 3 tyX13 := by unfold DV; decide +kernel
theorem nk_8 : ∀ k, 3 ≤ k → fk 8 k = 0 := by
  have q : ∀ k, k < 64 → 3 ≤ k → fk 8 k = 0 := by decide +kernel
  intro k hk
  by_cases h : k < 64
  · exact q k h hk
  · exact fk_out (fun z => h z.2)
theorem nc_8 : ∀ k, fk 8 k < 2 := by
  have q : ∀ k, k < 64 → fk 8 k < 2 := by decide +kernel
  intro k
  by_cases h : k < 64
  · exact q k h
  · rw [fk_out (fun z => h z.2)]; decide
theorem dv_9 : DV 9 1 tyX14 := by unfold DV; decide +kernel
theorem nk_9 : ∀ k, 1 ≤ k → fk 9 k = 0 := by
  have q : ∀ k, k < 64 → 1 ≤ k → fk 9 k = 0 := by decide +kernel
  intro k hk
  by_cases h : k < 64
  · exact q k h hk
  · exact fk_out (fun z => h z.2)
theorem nc_9 : ∀ k, fk 9 k < 2 := by
  have q : ∀ k, k < 64 → fk 9 k < 2 := by decide +kernel
  intro k
  by_cases h : k < 64
  · exact q k h
  · rw [fk_out (fun z => h z.2)]; decide
theorem dv_10 : DV 10 1 tyX15 := by unfold DV; decide +kernel
theorem nk_10 : ∀ k, 1 ≤ k → fk 10 k = 0 := by
  have q : ∀ k, k < 64 → 1 ≤ k → fk 10 k = 0 := by decide +kernel
  intro k hk
  by_cases h : k < 64
  · exact q k h hk
  · exact fk_out (fun z => h z.2)
theorem nc_10 : ∀ k, fk 10 k < 2 := by
  have q : ∀ k, k < 64 → fk 10 k < 2 := by decide +kernel
  intro k
  by_cases h : k < 64
  · exact q k h
  · rw [fk_out (fun z => h z.2)]; decide
theorem dv_11 : DV 11 3 tyX16 := by unfold DV; decide +kernel
theorem nk_11 : ∀ k, 3 ≤ k → fk 11 k = 0 := by
  have q : ∀ k, k < 64 → 3 ≤ k → fk 11 k = 0 := by decide +kernel
  intro k hk
  by_cases h : k < 64
  · exact q k h hk
  · exact fk_out (fun z => h z.2)
theorem nc_11 : ∀ k, fk 11 k < 2 := by
  have q : ∀ k, k < 64 → fk 11 k < 2 := by decide +kernel
  intro k
  by_cases h : k < 64
  · exact q k h
  · rw [fk_out (fun z => h z.2)]; decide
theorem dv_12 : DV 12 3 tyX17 := by unfold DV; decide +kernel
theorem nk_12 : ∀ k, 3 ≤ k → fk 12 k = 0 := by
  have q : ∀ k, k < 64 → 3 ≤ k → fk 12 k = 0 := by decide +kernel
  intro k hk
  by_cases h : k < 64
  · exact q k h hk
  · exact fk_out (fun z => h z.2)
theorem nc_12 : ∀ k, fk 12 k < 2 := by
  have q : ∀ k, k < 64 → fk 12 k < 2 := by decide +kernel
  intro k
  by_cases h : k < 64
  · exact q k h
  · rw [fk_out (fun z => h z.2)]; decide
theorem dv_13 : DV 13 4 tyX18 := by unfold DV; decide +kernel
theorem nk_13 : ∀ k, 4 ≤ k → fk 13 k = 0 := by
  have q : ∀ k, k < 64 → 4 ≤ k → fk 13 k = 0 := by decide +kernel
  intro k hk
  by_cases h : k < 64
  · exact q k h hk
  · exact fk_out (fun z => h z.2)
theorem nc_13 : ∀ k, fk 13 k < 2 := by
  have q : ∀ k, k < 64 → fk 13 k < 2 := by decide +kernel
  intro k
  by_cases h : k < 64
  · exact q k h
  · rw [fk_out (fun z => h z.2)]; decide
theorem dv_14 : DV 14 63 tyX6 := by unfold DV; decide +kernel
theorem nk_14 : ∀ k, 63 ≤ k → fk 14 k = 0 := by
  have q : ∀ k, k < 64 → 63 ≤ k → fk 14 k = 0 := by decide +kernel
  intro k hk
  by_cases h : k < 64
  · exact q k h hk
  · exact fk_out (fun z => h z.2)

