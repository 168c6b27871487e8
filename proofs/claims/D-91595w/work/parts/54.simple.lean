set_option maxRecDepth 100000
/-! ===== pure: small calls ===== -/
def nb (x : Int32) (n : Nat) : Prop := ∃ v, v ≤ n ∧ x = nI v
def inS (l : List Nat) (i _ : Nat) : Prop := i ∈ l
def IG (σ : Mem) : Prop := ∀ s, s < 8 → mI σ 101 s = mI σ 203 s ∧ mI σ 102 s = mI σ 204 s ∧ mI σ 103 s = mI σ 205 s ∧ nb (mI σ 203 s) 1000 ∧ nb (mI σ 204 s) 1000 ∧ nb (mI σ 205 s) 1000
theorem IG.mv {σ σ' : Mem} {X : Nat → Nat → Prop} (h : IG σ) (hs : Sm X σ σ') (hX : ∀ i, i ∈ [101, 102, 103, 203, 204, 205] → ∀ k, ¬ X i k) : IG σ' := by
  intro s k
  have := h s k
  rw [hs.I (hX 101 (by decide) s), hs.I (hX 102 (by decide) s), hs.I (hX 103 (by decide) s), hs.I (hX 203 (by decide) s), hs.I (hX 204 (by decide) s), hs.I (hX 205 (by decide) s)]
  exact this
/-- both sides answer alike; the store goes on -/
def Same2 (σ : Mem) (oX : Option (Mem × Int32)) (oM : Mem → Option (Mem × Int32)) (P : Mem → Prop) : Prop := ∃ σ1 r σ2, oX = some (σ1, r) ∧ oM σ1 = some (σ2, r) ∧ P σ2
theorem op_grain {σ : Mem} (h : IG σ) (a b c : Int32) : Same2 σ (f_X1_grain σ a b c) (fun σ1 => f_X6_grain σ1 a b c) (fun σ2 => Sm (inS [101, 102, 103, 203, 204, 205]) σ σ2 ∧ IG σ2) := by
  unfold Same2 f_X1_grain f_X6_grain
  simp only [f1_size, f6_in, bnd_e, f1_inL _ b 0 2 (lo' := 0) (hi' := 2) rfl rfl, f1_inL _ c 0 1000 (lo' := 0) (hi' := 1000) rfl rfl]
  cases ha : rng a 0 7
  · exact ⟨σ, 0, σ, rfl, rfl, Sm.rf, h⟩
  cases hb : rng b 0 2
  · exact ⟨σ, 0, σ, rfl, rfl, Sm.rf, h⟩
  cases hc : rng c 0 1000
  · exact ⟨σ, 0, σ, rfl, rfl, Sm.rf, h⟩
  obtain ⟨s, hs, rfl⟩ := rng_n (n := 7) (by decide) ha
  obtain ⟨w, hw, rfl⟩ := rng_n (n := 2) (by decide) hb
  obtain ⟨v, hv, rfl⟩ := rng_n (n := 1000) (by decide) hc
  have fin : ∀ i j, (i = 101 ∧ j = 203) ∨ (i = 102 ∧ j = 204) ∨ (i = 103 ∧ j = 205) → Sm (inS [101, 102, 103, 203, 204, 205]) σ (setI (setI σ i s (nI v)) j s (nI v)) ∧ IG (setI (setI σ i s (nI v)) j s (nI v)) := by
    intro i j hij
    refine ⟨?_, ?_⟩
    · refine Sm.tr (Sm.sI (nI v) ?_) (Sm.sI (nI v) ?_) <;> (unfold inS; rcases hij with ⟨rfl, rfl⟩ | ⟨rfl, rfl⟩ | ⟨rfl, rfl⟩ <;> decide)
    · intro t ht
      obtain ⟨e1, e2, e3, n1, n2, n3⟩ := h t ht
      simp only [mI_setI]
      by_cases hts : t = s
      · subst hts
        rcases hij with ⟨rfl, rfl⟩ | ⟨rfl, rfl⟩ | ⟨rfl, rfl⟩ <;> simp [e1, e2, e3, n1, n2, n3, nb] <;> first | exact ⟨n2, n3, v, hv, rfl⟩ | exact ⟨⟨v, hv, rfl⟩, n2, n3⟩ | exact ⟨n1, ⟨v, hv, rfl⟩, n3⟩ | exact ⟨n1, n2, v, hv, rfl⟩
      · simp [hts, e1, e2, e3, n1, n2, n3]
  rcases (show w = 0 ∨ w = 1 ∨ w = 2 by omega) with rfl | rfl | rfl
  · refine ⟨setI σ 101 s (nI v), 1, setI (setI σ 101 s (nI v)) 203 s (nI v), ?_, ?_, fin 101 203 (by simp)⟩
    · show (wrI σ 101 8 (nI s) (nI v) fun σ10 => retZm σ10 1) = _
      rw [wrI_n σ 101 _ _ (by omega) (by decide)]; rfl
    · show (wrI _ 203 8 (nI s) (nI v) fun σ10 => retZm σ10 1) = _
      rw [wrI_n _ 203 _ _ (by omega) (by decide)]; rfl
  · refine ⟨setI σ 102 s (nI v), 1, setI (setI σ 102 s (nI v)) 204 s (nI v), ?_, ?_, fin 102 204 (by simp)⟩
    · show (wrI σ 102 8 (nI s) (nI v) fun σ10 => retZm σ10 1) = _
      rw [wrI_n σ 102 _ _ (by omega) (by decide)]; rfl
    · show (wrI _ 204 8 (nI s) (nI v) fun σ10 => retZm σ10 1) = _
      rw [wrI_n _ 204 _ _ (by omega) (by decide)]; rfl
  · refine ⟨setI σ 103 s (nI v), 1, setI (setI σ 103 s (nI v)) 205 s (nI v), ?_, ?_, fin 103 205 (by simp)⟩
    · show (wrI σ 103 8 (nI s) (nI v) fun σ10 => retZm σ10 1) = _
      rw [wrI_n σ 103 _ _ (by omega) (by decide)]; rfl
    · show (wrI _ 205 8 (nI s) (nI v) fun σ10 => retZm σ10 1) = _
      rw [wrI_n _ 205 _ _ (by omega) (by decide)]; rfl

/-! the stream, what comes -/
def IQ (σ : Mem) (Q : Nat) : Prop := Q ≤ 1000 ∧ mI σ 0 21 = nI Q ∧ mI σ 200 48 = nI Q
def IK (σ : Mem) (g : Nat → Nat) : Prop := ∀ s, s < 8 → g s ≤ 9999 ∧ mI σ 10 s = nI (g s) ∧ mI σ 239 s = nI (g s)
def at2 (l : List (Nat × Nat)) (i k : Nat) : Prop := (i, k) ∈ l
theorem op_stream {σ : Mem} {Q : Nat} (h : IQ σ Q) (a : Int32) : Same2 σ (f_X1_stream σ a) (fun σ1 => f_X6_stream σ1 a) (fun σ2 => Sm (at2 [(0, 21), (200, 48)]) σ σ2 ∧ ∃ Q, IQ σ2 Q) := by
  unfold Same2 f_X1_stream f_X6_stream
  simp only [f6_in, bnd_e, f1_inL _ a 1 1000 (lo' := 1) (hi' := 1000) rfl rfl]
  cases ha : rng a 1 1000
  · exact ⟨σ, 0, σ, rfl, rfl, Sm.rf, Q, h⟩
  obtain ⟨q, q1, q2, rfl⟩ := rng_lo (a := 1) (n := 1000) (by decide) (by decide) ha
  refine ⟨setI σ 0 21 (nI q), 1, setI (setI σ 0 21 (nI q)) 200 48 (nI q), rfl, rfl, Sm.tr (Sm.sI _ (by unfold at2; decide)) (Sm.sI _ (by unfold at2; decide)), q, q2, ?_, mI_s _ _ _ _⟩
  rw [mI_o _ _ (Or.inl (by decide)), mI_s]
theorem op_come {σ : Mem} {g : Nat → Nat} (h : IK σ g) (a b : Int32) : Same2 σ (f_X1_come σ a b) (fun σ1 => f_X6_come σ1 a b) (fun σ2 => Sm (inS [10, 239]) σ σ2 ∧ ∃ g, IK σ2 g) := by
  unfold Same2 f_X1_come f_X6_come
  simp only [f1_size, f6_in, bnd_e, f1_inL _ b 0 9999 (lo' := 0) (hi' := 9999) rfl rfl]
  cases ha : rng a 0 7
  · exact ⟨σ, 0, σ, rfl, rfl, Sm.rf, g, h⟩
  cases hb : rng b 0 9999
  · exact ⟨σ, 0, σ, rfl, rfl, Sm.rf, g, h⟩
  obtain ⟨s, hs, rfl⟩ := rng_n (n := 7) (by decide) ha
  obtain ⟨v, hv, rfl⟩ := rng_n (n := 9999) (by decide) hb
  refine ⟨setI σ 10 s (nI v), 1, setI (setI σ 10 s (nI v)) 239 s (nI v), ?_, ?_, Sm.tr (Sm.sI _ (by unfold inS; decide)) (Sm.sI _ (by unfold inS; decide)), fun t => if t = s then v else g t, fun t ht => ?_⟩
  · show (wrI σ 10 8 (nI s) (nI v) fun σ6 => retZm σ6 1) = _
    rw [wrI_n σ 10 _ _ (by omega) (by decide)]; rfl
  · show (wrI _ 239 8 (nI s) (nI v) fun σ6 => retZm σ6 1) = _
    rw [wrI_n _ 239 _ _ (by omega) (by decide)]; rfl
  · obtain ⟨e1, e2, e3⟩ := h t ht
    simp only [mI_setI]
    by_cases hts : t = s
    · subst hts; simp [hv]
    · simp [hts, e1, e2, e3]
theorem op_ripe {σ : Mem} {FM B : Nat} {dd : Nat → Fdt} (h : HF σ FM B dd) (a : Int32) : Same1 (f_X1_ripe σ a) (f_X6_ripe σ a) := by
  unfold f_X1_ripe f_X6_ripe
  rcases isF h a with ⟨F, hF, rfl, e1, e2⟩ | ⟨e1, e2⟩
  · obtain ⟨k1, k2, k3, k4, k5, k6, -⟩ := h.2.2.2 F hF
    have h1 := h.1
    rw [e1, e2, bnd_e, bnd_e, if_neg (by decide), if_neg (by decide), rdN_n _ k1 (by omega) (by decide), getI_e, rdI_n σ 241 _ (by omega) (by decide), k5.2.2.2.2.2.2.2.1, k6.2.2.2.2.2.2.2.1]
    exact ⟨_, rfl, rfl⟩
  · rw [e1, e2]
    exact ⟨_, rfl, rfl⟩
