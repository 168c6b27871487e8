set_option maxRecDepth 100000
/-! ===== pure: what filters and cells tell ===== -/
theorem f1_inL (σ : Mem) (x lo hi : Int32) {lo' hi' : Int64} (h1 : lo.toInt64 = lo') (h2 : hi.toInt64 = hi') : f_X1_isIn σ x.toInt64 lo' hi' = some (if rng x lo hi then 1 else 0) := by rw [← h1, ← h2]; exact f1_in σ x lo hi
theorem retZ_b (b : Bool) : retZ (if b then 1 else 0) = some (if b then 1 else 0) := by cases b <;> rfl
theorem f1_size (σ : Mem) (x : Int32) : f_X1_isSize σ x = some (if rng x 0 7 then 1 else 0) := by
  unfold f_X1_isSize
  rw [f1_inL σ x 0 7 (lo' := 0) (hi' := 7) rfl rfl, bnd_e, retZ_b]
def Fi (f : Nat) : Nat := 1000 + 100 * f
def Ci (f c : Nat) : Nat := 1000 + 100 * f + 10 + 5 * c
/-- a filter's scalars: d 7 0.. state since washes share push out hasRun best+1 bestOut -/
def XSc (σ : Mem) (i : Nat) (d : Fdt) : Prop := mI σ i 6 = nI (d 7 0) ∧ mI σ i 7 = nI (d 7 1) ∧ mI σ i 8 = nI (d 7 2) ∧ mI σ i 9 = nI (d 7 3) ∧ mI σ i 10 = nI (d 7 4) ∧ mI σ i 11 = nI (d 7 5) ∧ mI σ i 15 = nI (d 7 6) ∧ mI σ i 12 = nI (d 7 7) - 1 ∧ mI σ i 13 = nI (d 7 8)
def MSc (σ : Mem) (f : Nat) (d : Fdt) : Prop := mI σ 216 f = nI (d 7 0) ∧ mI σ 217 f = nI (d 7 1) ∧ mI σ 218 f = nI (d 7 2) ∧ mI σ 220 f = nI (d 7 3) ∧ mI σ 221 f = nI (d 7 4) ∧ mI σ 222 f = nI (d 7 5) ∧ mI σ 224 f = nI (d 7 6) ∧ mI σ 241 f = nI (d 7 7) - 1 ∧ mI σ 242 f = nI (d 7 8)
def MEx (σ : Mem) (f : Nat) (d : Fdt) : Prop := (∀ c, c < d 0 0 → mI σ 208 (10 * f + c) = nI (d 2 c) ∧ ∀ s, s < 8 → mI σ 211 (8 * (10 * f + c) + s) = nI (d 5 (8 * c + s))) ∧ mI σ 214 f = nI (d 0 2) ∧ mI σ 215 f = nI (d 0 3)
def OKx (d : Fdt) : Prop := (∀ c, c < d 0 0 → 1 ≤ d 2 c ∧ d 2 c ≤ 20 ∧ ∀ s, s < 8 → d 5 (8 * c + s) ≤ d 4 (8 * c + s)) ∧ 1 ≤ d 0 2 ∧ d 0 2 ≤ 1000 ∧ 1 ≤ d 0 3 ∧ d 0 3 ≤ 200
/-- the filters of the house and of the model -/
def HF (σ : Mem) (FM B : Nat) (dd : Nat → Fdt) : Prop :=
  FM ≤ 8 ∧ mI σ 0 3 = nI FM ∧ mI σ 200 24 = nI FM ∧ ∀ f, f < FM → mR σ 3 f = some (Fi f) ∧ XFil σ (Fi f) (Ci f) (dd f) ∧ MFil σ f (dd f) ∧ OKf (dd f) B ∧ XSc σ (Fi f) (dd f) ∧ MSc σ f (dd f) ∧ MEx σ f (dd f) ∧ OKx (dd f)
theorem n_sub1 {n : Nat} : nI (n + 1) - 1 = nI n := nI_pred n
theorem rng_top {x : Int32} {n : Nat} (hn : n < 2 ^ 31) : (∃ k, k < n ∧ x = nI k ∧ rng x 0 (nI n - 1) = true) ∨ ((∀ k, k < n → x ≠ nI k) ∧ rng x 0 (nI n - 1) = false ∧ (x < 0 ∨ nI n ≤ x)) := by
  rcases pk_ix x hn with h | h | ⟨j, hj, rfl⟩
  · refine Or.inr ⟨fun k hk e => ?_, ?_, Or.inl h⟩
    · subst e; exact absurd h (nI_pos (by omega))
    · unfold rng; rw [decide_eq_false (Int32.not_le.mpr h)]; rfl
  · refine Or.inr ⟨fun k hk e => ?_, ?_, Or.inr h⟩
    · subst e; exact absurd h (nI_ge hk hn)
    · unfold rng
      have h1 : ¬ x ≤ nI n - 1 := fun q => by
        have a := Int32.le_iff_toInt_le.mp h
        have b := Int32.le_iff_toInt_le.mp q
        cases n with
        | zero =>
          rw [nI_0] at b a
          have e : ((0 : Int32) - 1).toInt = -1 := by decide
          have e0 : (0 : Int32).toInt = 0 := by decide
          omega
        | succ n => rw [n_sub1, nI_toInt (by omega)] at b; rw [nI_toInt hn] at a; omega
      rw [decide_eq_false h1, Bool.and_false]
  · refine Or.inl ⟨j, hj, rfl, ?_⟩
    obtain ⟨n, rfl⟩ : ∃ m, n = m + 1 := ⟨n - 1, by omega⟩
    unfold rng
    rw [n_sub1, decide_eq_true (nI_pos' (by omega)), decide_eq_true (nI_le (by omega) (by omega))]; rfl
section TL
variable {σ : Mem} {FM B : Nat} {dd : Nat → Fdt}
theorem isF (h : HF σ FM B dd) (a : Int32) : (∃ F, F < FM ∧ a = nI F ∧ f_X1_isFilter σ a = some 1 ∧ f_X6_isFilter σ a = some 1) ∨ (f_X1_isFilter σ a = some 0 ∧ f_X6_isFilter σ a = some 0) := by
  obtain ⟨h1, h2, h3, -⟩ := h
  unfold f_X1_isFilter f_X6_isFilter
  rw [getI_e, getI_e, h2, h3, f6_in, bnd_e, retZ_b]
  rcases rng_top (x := a) (n := FM) (by omega) with ⟨k, hk, rfl, hr⟩ | ⟨-, hr, hx⟩
  · refine Or.inl ⟨k, hk, rfl, ?_, by rw [hr]; rfl⟩
    rw [if_neg (nI_pos (by omega)), if_neg (nI_ge hk (by omega))]; rfl
  · refine Or.inr ⟨?_, by rw [hr]; rfl⟩
    rcases hx with hx | hx
    · rw [if_pos hx]; rfl
    · by_cases h0 : a < 0
      · rw [if_pos h0]; rfl
      · rw [if_neg h0, if_pos hx]; rfl
theorem isC (h : HF σ FM B dd) (a b : Int32) : (∃ F C, F < FM ∧ a = nI F ∧ C < dd F 0 0 ∧ b = nI C ∧ f_X1_isCell σ a b = some 1 ∧ f_X6_isCell σ a b = some 1) ∨ (f_X1_isCell σ a b = some 0 ∧ f_X6_isCell σ a b = some 0) := by
  unfold f_X1_isCell f_X6_isCell
  rcases isF h a with ⟨F, hF, rfl, e1, e2⟩ | ⟨e1, e2⟩
  · have hh := h.2.2.2 F hF
    have h1 := h.1
    have o := hh.2.2.2.1.1
    rw [e1, e2, bnd_e, bnd_e, if_neg (by decide), if_neg (by decide), rdN_n _ hh.1 (by omega) (by decide), getI_e, hh.2.1.1, rdI_n σ 206 _ (by omega) (by decide), hh.2.2.1.1, f6_in, bnd_e, show (0 : Int64) = (0 : Int32).toInt64 from rfl, f1_in, bnd_e]
    rcases rng_top (x := b) (n := dd F 0 0) (by omega) with ⟨k, hk, rfl, hr⟩ | ⟨-, hr, -⟩
    · rw [hr]
      exact Or.inl ⟨F, k, hF, rfl, hk, rfl, rfl, rfl⟩
    · rw [hr]
      exact Or.inr ⟨rfl, rfl⟩
  · rw [e1, e2]
    exact Or.inr ⟨rfl, rfl⟩
/-- both sides answer alike and change nothing -/
def Same1 (o o' : Option Int32) : Prop := ∃ r, o = some r ∧ o' = some r
theorem same_self {o : Option Int32} (h : ∃ r, o = some r) : Same1 o o := by obtain ⟨r, e⟩ := h; exact ⟨r, e, e⟩
theorem op_celled (h : HF σ FM B dd) (a b c : Int32) : Same1 (f_X1_celled σ a b c) (f_X6_celled σ a b c) := by
  unfold f_X1_celled f_X6_celled
  rcases isC h a b with ⟨F, C, hF, rfl, hC, rfl, e1, e2⟩ | ⟨e1, e2⟩
  · obtain ⟨k1, k2, k3, k4, -⟩ := h.2.2.2 F hF
    have h1 := h.1
    have o := k4.1
    have oc := k4.2.1 C hC
    have xc := k2.2.1 C hC
    have mc := k3.2.1 C hC
    have wl := wdD_le k4 hC
    rw [e1, e2, bnd_e, bnd_e, if_neg (by decide), if_neg (by decide), rdN_n _ k1 (by omega) (by decide), rdN_n _ xc.1 (by omega) (by decide)]
    unfold f_X7_resist
    rw [X_wd k2 k4 hC, M_wd (by omega) k3 k4 hC, X_all (g := fun s => dd F 4 (8 * C + s)) (fun s hs => (xc.2.2.2.2 s hs).1), M_held (g := fun s => dd F 4 (8 * C + s)) (by omega) (by omega) mc.2.2]
    simp only [bnd_e]
    rw [X_rs (by omega), M_rs (by omega), ix10, rdI_n σ 207 _ (show 10 * F + C < 90 by omega) (by decide), rdI_n σ 209 _ (show 10 * F + C < 90 by omega) (by decide)]
    simp only [getI_e, bnd_e]
    rw [xc.2.1, xc.2.2.2.1, mc.1, mc.2.1]
    split
    · exact ⟨_, rfl, rfl⟩
    · split
      · exact ⟨_, rfl, rfl⟩
      · split
        · exact ⟨_, rfl, rfl⟩
        · split
          · exact ⟨_, rfl, rfl⟩
          · split
            · exact ⟨_, rfl, rfl⟩
            · exact ⟨_, rfl, rfl⟩
  · rw [e1, e2]
    exact ⟨_, rfl, rfl⟩
theorem op_held (h : HF σ FM B dd) (a b c w : Int32) : Same1 (f_X1_held σ a b c w) (f_X6_held σ a b c w) := by
  unfold f_X1_held f_X6_held
  rcases isC h a b with ⟨F, C, hF, rfl, hC, rfl, e1, e2⟩ | ⟨e1, e2⟩
  · obtain ⟨k1, k2, k3, k4, -, -, k7, -⟩ := h.2.2.2 F hF
    have h1 := h.1
    have o := k4.1
    have xc := k2.2.1 C hC
    have mc := k3.2.1 C hC
    rw [e1, e2, bnd_e, bnd_e, if_neg (by decide), if_neg (by decide), f1_size, f6_in, bnd_e, bnd_e]
    cases hr : rng c 0 7
    · exact ⟨_, rfl, rfl⟩
    · obtain ⟨s, hs, rfl⟩ := rng_n (n := 7) (by decide) hr
      rw [if_neg (by decide), if_neg (by decide), f1_inL σ w 0 1 (lo' := 0) (hi' := 1) rfl rfl, f6_in, bnd_e, bnd_e]
      cases hr2 : rng w 0 1
      · exact ⟨_, rfl, rfl⟩
      · rw [if_neg (by decide), if_neg (by decide), rdN_n _ k1 (by omega) (by decide), rdN_n _ xc.1 (by omega) (by decide), wlet_e, ix10, ix8, rdI_n σ 210 _ (by omega) (by decide), rdI_n σ 211 _ (by omega) (by decide), rdI_n σ (Ci F C + 1) _ (by omega) (by decide), rdI_n σ (Ci F C + 2) _ (by omega) (by decide), (xc.2.2.2.2 s (by omega)).1, (xc.2.2.2.2 s (by omega)).2, mc.2.2 s (by omega), (k7.1 C hC).2 s (by omega)]
        split
        · exact ⟨_, rfl, rfl⟩
        · exact ⟨_, rfl, rfl⟩
  · rw [e1, e2]
    exact ⟨_, rfl, rfl⟩
theorem op_told (h : HF σ FM B dd) (a w : Int32) : Same1 (f_X1_told σ a w) (f_X6_told σ a w) := by
  unfold f_X1_told f_X6_told
  rcases isF h a with ⟨F, hF, rfl, e1, e2⟩ | ⟨e1, e2⟩
  · obtain ⟨k1, k2, k3, k4, k5, k6, k7, -⟩ := h.2.2.2 F hF
    have h1 := h.1
    rw [e1, e2, bnd_e, bnd_e, if_neg (by decide), if_neg (by decide), rdN_n _ k1 (by omega) (by decide)]
    simp only [getI_e]
    rw [rdI_n σ 216 _ (by omega) (by decide), rdI_n σ 217 _ (by omega) (by decide), rdI_n σ 218 _ (by omega) (by decide), rdI_n σ 206 _ (by omega) (by decide), rdI_n σ 220 _ (by omega) (by decide), rdI_n σ 221 _ (by omega) (by decide), rdI_n σ 222 _ (by omega) (by decide), X_ck k2, M_ck (by omega) k3, X_open k2 k4, M_bed (by omega) k3 k4]
    simp only [bnd_e]
    rw [k5.1, k5.2.1, k5.2.2.1, k5.2.2.2.1, k5.2.2.2.2.1, k5.2.2.2.2.2.1, k6.1, k6.2.1, k6.2.2.1, k6.2.2.2.1, k6.2.2.2.2.1, k6.2.2.2.2.2.1, k2.1, k3.1]
    by_cases c0 : w = 0
    · rw [if_pos c0, if_pos c0]; exact ⟨_, rfl, rfl⟩
    rw [if_neg c0, if_neg c0]
    by_cases c1 : w = 1
    · rw [if_pos c1, if_pos c1]; exact ⟨_, rfl, rfl⟩
    rw [if_neg c1, if_neg c1]
    by_cases c2 : w = 2
    · rw [if_pos c2, if_pos c2]; exact ⟨_, rfl, rfl⟩
    rw [if_neg c2, if_neg c2]
    by_cases c3 : w = 3
    · rw [if_pos c3, if_pos c3]; exact ⟨_, rfl, rfl⟩
    rw [if_neg c3, if_neg c3]
    by_cases c4 : w = 4
    · rw [if_pos c4, if_pos c4]
      cases ho : opD (dd F)
      · exact ⟨_, rfl, rfl⟩
      · rw [X_bed k2 k4 ho]; exact ⟨_, rfl, rfl⟩
    rw [if_neg c4, if_neg c4]
    refine same_self ?_
    repeat (first | exact ⟨_, rfl⟩ | split)
  · rw [e1, e2]
    exact ⟨_, rfl, rfl⟩
theorem op_push (h : HF σ FM 20000000 dd) (a w : Int32) : Same1 (f_X1_push σ a w) (f_X6_push σ a w) := by
  unfold f_X1_push f_X6_push
  rcases isF h a with ⟨F, hF, rfl, e1, e2⟩ | ⟨e1, e2⟩
  · obtain ⟨k1, k2, k3, k4, -⟩ := h.2.2.2 F hF
    have h1 := h.1
    rw [e1, e2, bnd_e, bnd_e, if_neg (by decide), if_neg (by decide), f1_inL σ w 1 1000 (lo' := 1) (hi' := 1000) rfl rfl, f6_in, bnd_e, bnd_e]
    cases hr : rng w 1 1000
    · exact ⟨_, rfl, rfl⟩
    · obtain ⟨q, q1, q2, rfl⟩ := rng_lo (a := 1) (n := 1000) (by decide) (by decide) hr
      obtain ⟨x, x1, x2, -⟩ := push_eq k2 (by omega) k3 k4 q2
      rw [if_neg (by decide), if_neg (by decide), rdN_n _ k1 (by omega) (by decide), x1, x2]
      exact ⟨_, rfl, rfl⟩
  · rw [e1, e2]
    exact ⟨_, rfl, rfl⟩
end TL
