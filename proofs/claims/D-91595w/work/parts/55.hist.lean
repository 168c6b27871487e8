set_option maxRecDepth 100000
/-! ===== pure: the history; costs; the tape's end ===== -/
def INow (σ : Mem) (N : Nat) : Prop := N ≤ 2000 ∧ mI σ 0 0 = nI N ∧ mI σ 200 0 = nI N
def IHist (σ : Mem) (N : Nat) : Prop := (∀ k, 24 ≤ k → k < 24 * (N + 1) → mI σ 21 k = mI σ 240 k) ∧ ∀ k, 24 * (N + 1) ≤ k → k < 48024 → mI σ 240 k = 0
theorem ixh (h s w : Nat) : (3 : Int32) * ((8 : Int32) * nI h + nI s) + nI w = nI (3 * (8 * h + s) + w) := by rw [ix8, ix3, nI_add]
section HI
variable {σ : Mem} {N : Nat}
theorem X_hist (hN : INow σ N) {h s w : Nat} (h1 : 1 ≤ h) (h2 : h ≤ N) (hs : s < 8) (hw : w ≤ 2) : f_X1_history σ (nI h) (nI s) (nI w) = some (mI σ 21 (3 * (8 * h + s) + w)) := by
  have := hN.1
  unfold f_X1_history
  rw [getI_e, hN.2.1, show (1 : Int64) = (1 : Int32).toInt64 from rfl, f1_in, bnd_e, show rng (nI h) 1 (nI N) = true from by
    unfold rng
    rw [show (1 : Int32) = nI 1 from rfl, decide_eq_true (nI_le h1 (by omega)), decide_eq_true (nI_le h2 (by omega))]; rfl, if_neg (by decide), f1_size, bnd_e, show rng (nI s) 0 7 = true from by
    unfold rng
    rw [decide_eq_true (nI_pos' (by omega)), decide_eq_true (show nI s ≤ (7 : Int32) from nI_le (b := 7) (by omega) (by decide))]; rfl, if_neg (by decide), f1_inL σ (nI w) 0 2 (lo' := 0) (hi' := 2) rfl rfl, bnd_e, show rng (nI w) 0 2 = true from by
    unfold rng
    rw [decide_eq_true (nI_pos' (by omega)), decide_eq_true (show nI w ≤ (2 : Int32) from nI_le (b := 2) (by omega) (by decide))]; rfl, if_neg (by decide), ixh, rdI_n σ 21 _ (by omega) (by decide)]
theorem op_history (hN : INow σ N) (hh : IHist σ N) (a b c : Int32) : Same1 (f_X1_history σ a b c) (f_X6_history σ a b c) := by
  have hN0 := hN.1
  by_cases ok : ∃ h s w, 1 ≤ h ∧ h ≤ N ∧ s < 8 ∧ w ≤ 2 ∧ a = nI h ∧ b = nI s ∧ c = nI w
  · obtain ⟨h, s, w, h1, h2, hs, hw, rfl, rfl, rfl⟩ := ok
    rw [X_hist hN h1 h2 hs hw]
    unfold f_X6_history
    rw [getI_e, hN.2.2, f6_in, bnd_e, show rng (nI h) 1 (nI N) = true from by
      unfold rng
      rw [show (1 : Int32) = nI 1 from rfl, decide_eq_true (nI_le h1 (by omega)), decide_eq_true (nI_le h2 (by omega))]; rfl, if_neg (by decide), f6_in, bnd_e, show rng (nI s) 0 7 = true from by
      unfold rng
      rw [decide_eq_true (nI_pos' (by omega)), decide_eq_true (show nI s ≤ (7 : Int32) from nI_le (b := 7) (by omega) (by decide))]; rfl, if_neg (by decide), f6_in, bnd_e, show rng (nI w) 0 2 = true from by
      unfold rng
      rw [decide_eq_true (nI_pos' (by omega)), decide_eq_true (show nI w ≤ (2 : Int32) from nI_le (b := 2) (by omega) (by decide))]; rfl, if_neg (by decide), ixh, rdI_n σ 240 _ (by omega) (by decide), hh.1 _ (by omega) (by omega)]
    exact ⟨_, rfl, rfl⟩
  · unfold f_X1_history f_X6_history
    rw [getI_e, getI_e, hN.2.1, hN.2.2, show (1 : Int64) = (1 : Int32).toInt64 from rfl, f1_in, f6_in, bnd_e, bnd_e]
    cases r1 : rng a 1 (nI N)
    · exact ⟨_, rfl, rfl⟩
    rw [if_neg (by decide), if_neg (by decide), f1_size, f6_in, bnd_e, bnd_e]
    cases r2 : rng b 0 7
    · exact ⟨_, rfl, rfl⟩
    rw [if_neg (by decide), if_neg (by decide), f1_inL σ c 0 2 (lo' := 0) (hi' := 2) rfl rfl, f6_in, bnd_e, bnd_e]
    cases r3 : rng c 0 2
    · exact ⟨_, rfl, rfl⟩
    obtain ⟨h, h1, h2, rfl⟩ := rng_lo (a := 1) (n := N) (by omega) (by decide) r1
    obtain ⟨s, hs, rfl⟩ := rng_n (n := 7) (by decide) r2
    obtain ⟨w, hw, rfl⟩ := rng_n (n := 2) (by decide) r3
    exact absurd ⟨h, s, w, h1, h2, by omega, hw, rfl, rfl, rfl⟩ ok
/-- the two sums of an hour -/
def brS (σ : Mem) (id h : Nat) : Nat → Nat → Int32 → Int32
  | _, 0, acc => acc
  | s, r + 1, acc => brS σ id h (s + 1) r (acc + (mI σ id (3 * (8 * h + s) + 1) + mI σ id (3 * (8 * h + s) + 2)))
theorem brS_eq (hh : IHist σ N) {h : Nat} (h1 : 1 ≤ h) (h2 : h ≤ N) : ∀ r s acc, s + r = 8 → brS σ 21 h s r acc = brS σ 240 h s r acc
  | 0, _, _, _ => rfl
  | r + 1, s, acc, e => by
    unfold brS
    rw [hh.1 (3 * (8 * h + s) + 1) (by omega) (by omega), hh.1 (3 * (8 * h + s) + 2) (by omega) (by omega)]
    exact brS_eq hh h1 h2 r (s + 1) _ (by omega)
theorem X_br_L (hN : INow σ N) {k : Int32 → Option Int32} {u1 u2 : Int32} {h : Nat} (h1 : 1 ≤ h) (h2 : h ≤ N) : ∀ r n s acc, s + r = 8 → r < n → f_X1_breaks_L29 k σ u1 u2 (nI h) n acc (nI s) = k (brS σ 21 h s r acc)
  | 0, n + 1, s, acc, hs, _ => by
    have : s = 8 := by omega
    subst this
    unfold f_X1_breaks_L29
    rw [if_pos (by decide : (8 : Int32) ≤ nI 8)]
    rfl
  | r + 1, n + 1, s, acc, hs, hn => by
    unfold f_X1_breaks_L29
    have e1 := X_hist hN h1 h2 (s := s) (w := 1) (by omega) (by omega)
    have e2 := X_hist hN h1 h2 (s := s) (w := 2) (by omega) (by omega)
    rw [if_neg (ge8 (s := s) (by omega)), show f_X1_history σ (nI h) (nI s) (1 : Int32) = _ from e1, bnd_e, show f_X1_history σ (nI h) (nI s) (2 : Int32) = _ from e2, bnd_e, wlet_e, nI_1]
    exact X_br_L hN h1 h2 r n (s + 1) _ (by omega) (by omega)
theorem M_br_L (hN : INow σ N) {k : Int32 → Option Int32} {u1 u2 : Int32} {h : Nat} (h1 : 1 ≤ h) (h2 : h ≤ N) : ∀ r n s acc, s + r = 8 → r < n → f_X6_breaks_L32 k σ u1 u2 (nI h) n acc (nI s) = k (brS σ 240 h s r acc)
  | 0, n + 1, s, acc, hs, _ => by
    have : s = 8 := by omega
    subst this
    unfold f_X6_breaks_L32
    rw [if_pos (by decide : (8 : Int32) ≤ nI 8)]
    rfl
  | r + 1, n + 1, s, acc, hs, hn => by
    unfold f_X6_breaks_L32
    have := hN.1
    rw [if_neg (ge8 (s := s) (by omega)), show (3 : Int32) * ((8 : Int32) * nI h + nI s) + (1 : Int32) = nI (3 * (8 * h + s) + 1) from ixh h s 1, show (3 : Int32) * ((8 : Int32) * nI h + nI s) + (2 : Int32) = nI (3 * (8 * h + s) + 2) from ixh h s 2, rdI_n σ 240 _ (show 3 * (8 * h + s) + 1 < 48024 by omega) (by decide), rdI_n σ 240 _ (show 3 * (8 * h + s) + 2 < 48024 by omega) (by decide), wlet_e, nI_1]
    exact M_br_L hN h1 h2 r n (s + 1) _ (by omega) (by omega)
theorem br_L (hN : INow σ N) (hh : IHist σ N) {a : Nat} (ha : a < 8) {m : Int32} : ∀ r n h, h + r = N + 1 → 1 ≤ h → r < n → ∃ x, f_X1_breaks_L15 (fun x => some x) (some (-1)) σ (nI a) m n (nI h) = some x ∧ f_X6_breaks_L18 (fun x => some x) (some (-1)) σ (nI a) m n (nI h) = some x
  | 0, n + 1, h, e, h1, _ => by
    have := hN.1
    unfold f_X1_breaks_L15 f_X6_breaks_L18
    rw [getI_e, getI_e, hN.2.1, hN.2.2, if_pos (nI_lt (by omega) (by omega)), if_pos (nI_lt (by omega) (by omega))]
    exact ⟨_, rfl, rfl⟩
  | r + 1, n + 1, h, e, h1, hn => by
    have := hN.1
    unfold f_X1_breaks_L15 f_X6_breaks_L18
    rw [getI_e, getI_e, hN.2.1, hN.2.2, if_neg (nI_nlt (by omega) (by omega)), if_neg (nI_nlt (by omega) (by omega)), X_br_L hN h1 (by omega) (8 - a) FU a 0 (by omega) (by unfold FU; omega), M_br_L hN h1 (by omega) (8 - a) FU a 0 (by omega) (by unfold FU; omega), brS_eq hh h1 (by omega) _ _ _ (by omega)]
    simp only [nI_1]
    split
    · exact br_L hN hh ha r n (h + 1) (by omega) (by omega) (by omega)
    · exact ⟨_, rfl, rfl⟩
theorem op_breaks (hN : INow σ N) (hh : IHist σ N) (a m : Int32) : Same1 (f_X1_breaks σ a m) (f_X6_breaks σ a m) := by
  have hN0 := hN.1
  unfold f_X1_breaks f_X6_breaks
  rw [f1_size, f6_in, bnd_e, bnd_e]
  cases r1 : rng a 0 7
  · exact ⟨_, rfl, rfl⟩
  rw [if_neg (show ¬ (if true = true then (1 : Int32) else 0) = 0 by decide), if_neg (show ¬ (if true = true then (1 : Int32) else 0) = 0 by decide)]
  obtain ⟨s, hs, rfl⟩ := rng_n (n := 7) (by decide) r1
  by_cases hm : 0 ≤ m
  · rw [if_pos hm, if_pos hm]
    obtain ⟨x, e1, e2⟩ := br_L hN hh (a := s) (by omega) (m := m) N FU 1 (by omega) (by omega) (by unfold FU; omega)
    exact ⟨x, e1, e2⟩
  · rw [if_neg hm, if_neg hm]
    exact ⟨_, rfl, rfl⟩
end HI
/-! costs; the end of the tape -/
def ICo (σ : Mem) (c : Nat → Nat) (pr : Nat) : Prop := (∀ a, a < 20 → c a ≤ 1000 ∧ mI σ 31 a = nI (c a) ∧ mI σ 256 a = nI (c a)) ∧ pr ≤ 10000 ∧ mI σ 0 32 = nI pr ∧ mI σ 200 57 = nI pr
theorem op_cost {σ : Mem} {c : Nat → Nat} {pr : Nat} (h : ICo σ c pr) (a b : Int32) : Same2 σ (f_X1_cost σ a b) (fun σ1 => f_X6_cost σ1 a b) (fun σ2 => Sm (fun i k => inS [31, 256] i k ∨ at2 [(0, 32), (200, 57)] i k) σ σ2 ∧ ∃ c pr, ICo σ2 c pr) := by
  unfold Same2 f_X1_cost f_X6_cost
  simp only [f6_in, bnd_e, f1_inL _ a (-1) 19 (lo' := -1) (hi' := 19) rfl rfl]
  by_cases hm : a = -1
  · subst hm
    simp only [if_true, bnd_e, f1_inL _ b 0 10000 (lo' := 0) (hi' := 10000) rfl rfl]
    rw [if_neg (show ¬ (if rng (-1) (-1) 19 = true then (1 : Int32) else 0) = 0 by decide)]
    cases hb : rng b 0 10000
    · exact ⟨σ, 0, σ, rfl, rfl, Sm.rf, c, pr, h⟩
    obtain ⟨v, hv, rfl⟩ := rng_n (n := 10000) (by decide) hb
    refine ⟨setI σ 0 32 (nI v), 1, setI (setI σ 0 32 (nI v)) 200 57 (nI v), rfl, rfl, Sm.tr (Sm.sI _ (Or.inr (by unfold at2; decide))) (Sm.sI _ (Or.inr (by unfold at2; decide))), c, v, fun t ht => ?_, hv, ?_, mI_s _ _ _ _⟩
    · rw [mI_o _ _ (Or.inl (by decide)), mI_o _ _ (Or.inl (by decide)), mI_o _ _ (Or.inl (by decide)), mI_o _ _ (Or.inl (by decide))]
      exact h.1 t ht
    · rw [mI_o _ _ (Or.inl (by decide)), mI_s]
  · simp only [if_neg hm, bnd_e, f1_inL _ b 0 1000 (lo' := 0) (hi' := 1000) rfl rfl]
    have e : rng a (-1) 19 = rng a 0 19 := by
      unfold rng
      have : ((-1 : Int32) ≤ a) ↔ 0 ≤ a := by
        rw [Int32.le_iff_toInt_le, Int32.le_iff_toInt_le]
        have e1 : (-1 : Int32).toInt = -1 := by decide
        have e2 : (0 : Int32).toInt = 0 := by decide
        have e3 : a.toInt ≠ -1 := fun q => hm (Int32.toInt_inj.mp (by rw [q, e1]))
        omega
      rw [decide_eq_decide.mpr this]
    rw [e]
    cases ha : rng a 0 19
    · exact ⟨σ, 0, σ, rfl, rfl, Sm.rf, c, pr, h⟩
    cases hb : rng b 0 1000
    · exact ⟨σ, 0, σ, rfl, rfl, Sm.rf, c, pr, h⟩
    obtain ⟨s, hs, rfl⟩ := rng_n (n := 19) (by decide) ha
    obtain ⟨v, hv, rfl⟩ := rng_n (n := 1000) (by decide) hb
    refine ⟨setI σ 31 s (nI v), 1, setI (setI σ 31 s (nI v)) 256 s (nI v), ?_, ?_, Sm.tr (Sm.sI _ (Or.inl (by unfold inS; decide))) (Sm.sI _ (Or.inl (by unfold inS; decide))), fun t => if t = s then v else c t, pr, fun t ht => ?_, h.2.1, ?_, ?_⟩
    · show (wrI σ 31 20 (nI s) (nI v) fun σ6 => retZm σ6 1) = _
      rw [wrI_n σ 31 _ _ (by omega) (by decide)]; rfl
    · show (wrI _ 256 20 (nI s) (nI v) fun σ6 => retZm σ6 1) = _
      rw [wrI_n _ 256 _ _ (by omega) (by decide)]; rfl
    · obtain ⟨e1, e2, e3⟩ := h.1 t ht
      simp only [mI_setI]
      by_cases hts : t = s
      · subst hts; simp [hv]
      · simp [hts, e1, e2, e3]
    · rw [mI_o _ _ (Or.inl (by decide)), mI_o _ _ (Or.inl (by decide))]; exact h.2.2.1
    · rw [mI_o _ _ (Or.inl (by decide)), mI_o _ _ (Or.inl (by decide))]; exact h.2.2.2
