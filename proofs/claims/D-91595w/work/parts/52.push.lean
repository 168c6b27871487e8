set_option maxRecDepth 100000
/-! ===== pure: the push at rest ===== -/
def ndN (q b k pr p : Nat) : Nat := q * (b + k * (100 + p / pr) / 100) / 100
theorem ndN_mono {q b k pr x y : Nat} (h : x ≤ y) : ndN q b k pr x ≤ ndN q b k pr y := by
  unfold ndN
  apply Nat.div_le_div_right
  apply Nat.mul_le_mul_left
  apply Nat.add_le_add_left
  apply Nat.div_le_div_right
  apply Nat.mul_le_mul_left
  apply Nat.add_le_add_left
  exact Nat.div_le_div_right h
/-- what both sides give: the least push that bears itself, or none -/
def PuR (q b k pr : Nat) (r : Int32) : Prop := (∃ p, p ≤ 100000 ∧ ndN q b k pr p ≤ p ∧ (∀ z, z < p → ¬ ndN q b k pr z ≤ z) ∧ r = nI p) ∨ ((∀ z, z ≤ 100000 → ¬ ndN q b k pr z ≤ z) ∧ r = -1)
theorem PuR_eq {q b k pr : Nat} {r r' : Int32} (h : PuR q b k pr r) (h' : PuR q b k pr r') : r = r' := by
  rcases h with ⟨p, p1, p2, p3, rfl⟩ | ⟨p1, rfl⟩ <;> rcases h' with ⟨p', p1', p2', p3', rfl⟩ | ⟨p1', rfl⟩
  · have : p = p' := by
      rcases Nat.lt_trichotomy p p' with h | h | h
      · exact absurd p2 (p3' p h)
      · exact h
      · exact absurd p2' (p3 p' h)
    rw [this]
  · exact absurd p2 (p1' p p1)
  · exact absurd p2' (p1 p' p1')
  · rfl
theorem nd_b {q b k pr p : Nat} (hq : q ≤ 1000) (hb : b ≤ 100000) (hk : k ≤ 200000000) (hp : p ≤ 100000) : k * (100 + p / pr) ≤ 200000000 * 100100 ∧ q * (b + k * (100 + p / pr) / 100) ≤ 1000 * (100000 + 200000000 * 100100) := by
  have h1 : p / pr ≤ p := Nat.div_le_self _ _
  have h2 : k * (100 + p / pr) ≤ 200000000 * 100100 := Nat.mul_le_mul hk (by omega)
  have h3 : k * (100 + p / pr) / 100 ≤ k * (100 + p / pr) := Nat.div_le_self _ _
  exact ⟨h2, Nat.mul_le_mul hq (by omega)⟩
theorem nd_b2 {q b k pr p : Nat} (hq : q ≤ 1000) (hb : b ≤ 100000) (hk : k ≤ 200000000) (hp : p ≤ 100000) : ndN q b k pr p ≤ 1000 * (100000 + 200000000 * 100100) := Nat.le_trans (Nat.div_le_self _ _) (nd_b hq hb hk hp).2
/-- the long arithmetic of both -/
theorem nd_e {q b k pr p : Nat} (hq : q ≤ 1000) (hb : b ≤ 100000) (hk : k ≤ 200000000) (hp : p ≤ 100000) (h0 : 0 < pr) (hpr : pr ≤ 1000) : (nI q).toInt64 * (lN b + (lN k * ((100 : Int32) + nI p / nI pr).toInt64) / (100 : Int64)) / (100 : Int64) = lN (ndN q b k pr p) := by
  have h1 : p / pr ≤ p := Nat.div_le_self _ _
  obtain ⟨h2, h3⟩ := nd_b (pr := pr) hq hb hk hp
  rw [pk_div (by omega) h0 (by omega), show (100 : Int32) = nI 100 from rfl, nI_add, nI_l (by omega), nI_l (by omega), lN_mul, show (100 : Int64) = lN 100 from rfl, pk_lDiv (by omega) (by decide) (by decide), lN_add, lN_mul, pk_lDiv (by omega) (by decide) (by decide)]
  rfl
section PU
variable {σ : Mem} {i f B : Nat} {ci : Nat → Nat} {d : Fdt}
theorem X_needs (h : XFil σ i ci d) (ok : OKf d 20000000) {q b p : Nat} (hq : q ≤ 1000) (hb : b ≤ 100000) (hp : p ≤ 100000) : f_X3_needs σ i (lN b) (nI p) (nI q) = some (lN (ndN q b (ckN d) (d 0 1) p)) := by
  have hk := ckN_le ok
  have o1 := ok.2.2.2.1
  have o2 := ok.2.2.2.2
  unfold f_X3_needs f_X3_press f_X5_resist
  rw [show (0 : Int32) = nI 0 from rfl, rdI_n σ (i + 4) _ (by decide) (by decide), h.2.2.2.1, bnd_e, X_ck h, bnd_e, divI_e _ (nI_ne0 (by omega) (by omega)), divL_e _ (by decide), bnd_e, divL_e _ (by decide), nI_l (n := ckN d) (by omega), nd_e hq hb (by omega) hp (by omega) o2]
theorem X_push_L (h : XFil σ i ci d) (ok : OKf d 20000000) {q b : Nat} (hq : q ≤ 1000) (hb : b ≤ 100000) : ∀ r n p, p ≤ 100000 → 100000 - p < r → r < n → (∀ z, ndN q b (ckN d) (d 0 1) z ≤ z → p ≤ z) →
    ∃ x, PuR q b (ckN d) (d 0 1) x ∧ f_X3_pushWith_L27 (fun y9 y10 => if y10 ≤ (100000 : Int64) then (some (y9).toInt32) else (some (-1 : Int32))) σ i (nI q) (lN b) n (lN p) (lN (ndN q b (ckN d) (d 0 1) p)) = some x := by
  have hk := ckN_le ok
  intro r
  induction r with
  | zero => intro n p hp h1; omega
  | succ r ih =>
    intro n p hp h1 h2 hz
    obtain ⟨n, rfl⟩ : ∃ m, n = m + 1 := ⟨n - 1, by omega⟩
    have hN := nd_b2 (pr := d 0 1) hq hb (k := ckN d) (by omega) hp
    unfold f_X3_pushWith_L27
    rw [show (100000 : Int64) = lN 100000 from rfl]
    by_cases c1 : ndN q b (ckN d) (d 0 1) p ≤ p
    · rw [if_pos ((pk_lLE (by omega) (by omega)).mpr c1), if_pos ((pk_lLE (by omega) (by omega)).mpr (by omega)), lN_i]
      exact ⟨_, Or.inl ⟨p, hp, c1, fun z hz' hz2 => by have := hz z hz2; omega, rfl⟩, rfl⟩
    · rw [if_neg (fun q' => c1 ((pk_lLE (by omega) (by omega)).mp q'))]
      have hle : ∀ z, ndN q b (ckN d) (d 0 1) z ≤ z → ndN q b (ckN d) (d 0 1) p ≤ z := fun z hz2 => Nat.le_trans (ndN_mono (hz z hz2)) hz2
      by_cases c2 : 100000 < ndN q b (ckN d) (d 0 1) p
      · rw [if_pos ((pk_lLT (by omega) (by omega)).mpr c2), if_neg (fun q' => by have := (pk_lLE (by omega) (by omega)).mp q'; omega)]
        exact ⟨_, Or.inr ⟨fun z hz1 hz2 => by have := hle z hz2; omega, rfl⟩, rfl⟩
      · rw [if_neg (fun q' => c2 ((pk_lLT (by omega) (by omega)).mp q')), lN_i, X_needs h ok hq hb (by omega), bnd_e]
        exact ih n _ (by omega) (by omega) (by omega) hle
theorem X_push (h : XFil σ i ci d) (ok : OKf d 20000000) {q : Nat} (hq : q ≤ 1000) : ∃ x, f_X3_pushWith σ i (nI q) = some x ∧ (if opD d then PuR q (bdN d) (ckN d) (d 0 1) x else x = -1) := by
  unfold f_X3_pushWith
  rw [X_open h ok, bnd_e]
  by_cases ho : opD d = true
  · have hb := bdN_le ok
    rw [ho, if_neg (by decide), X_bed h ok ho, bnd_e, wlet_e, nI_l (by omega), show (0 : Int32) = nI 0 from rfl, X_needs h ok hq hb (by omega), bnd_e]
    obtain ⟨x, hx, e⟩ := X_push_L h ok hq hb 100001 FU 0 (by omega) (by omega) (by decide) (fun z _ => Nat.zero_le z)
    exact ⟨x, e, by rw [if_pos rfl]; exact hx⟩
  · have ho : opD d = false := by simpa using ho
    rw [ho]
    exact ⟨-1, rfl, rfl⟩
theorem M_push_L (hf : f < 9) (h : MFil σ f d) (ok : OKf d 20000000) {q b : Nat} (hq : q ≤ 1000) (hb : b ≤ 100000) : ∀ r n a, 100000 + 1 - a < r → a ≤ 101000 → r < n → a % d 0 1 = 0 → (∀ z, z < a → z ≤ 100000 → ¬ ndN q b (ckN d) (d 0 1) z ≤ z) →
    ∃ x, PuR q b (ckN d) (d 0 1) x ∧ f_X6_pushFor_L24 (fun y20 => some (y20).toInt32) (some (-1 : Int32)) σ (nI f) (nI q) (nI b) (lN (ckN d)) n (nI a) = some x := by
  have hk := ckN_le ok
  have o1 := ok.2.2.2.1
  have o2 := ok.2.2.2.2
  intro r
  induction r with
  | zero => intro n a h1; omega
  | succ r ih =>
    intro n a h1 ha h2 hm hz
    obtain ⟨n, rfl⟩ : ∃ m, n = m + 1 := ⟨n - 1, by omega⟩
    unfold f_X6_pushFor_L24
    rw [show (100000 : Int32) = nI 100000 from rfl]
    by_cases c0 : 100000 < a
    · rw [if_pos (nI_lt c0 (by omega))]
      exact ⟨_, Or.inr ⟨fun z hz1 => hz z (by omega) hz1, rfl⟩, rfl⟩
    · have hN := nd_b2 (pr := d 0 1) hq hb (k := ckN d) (by omega) (p := a) (by omega)
      have hblk : ∀ z, a ≤ z → z < a + d 0 1 → ndN q b (ckN d) (d 0 1) z = ndN q b (ckN d) (d 0 1) a := fun z z1 z2 => by
        have e : z / d 0 1 = a / d 0 1 := by
          have e1 : a = d 0 1 * (a / d 0 1) := by have := Nat.div_add_mod a (d 0 1); omega
          apply Nat.div_eq_of_lt_le
          · rw [Nat.mul_comm]; omega
          · rw [Nat.succ_mul, Nat.mul_comm]; omega
        unfold ndN; rw [e]
      rw [if_neg (nI_nlt (by omega) (by decide)), rdI_n σ 213 _ hf (by decide), h.2.2.2, divI_e _ (nI_ne0 (by omega) (by omega)), divL_e _ (by decide), divL_e _ (by decide), wlet_e, wlet_e, rdI_n σ 213 _ hf (by decide), rdI_n σ 213 _ hf (by decide), h.2.2.2, wlet_e, nI_add]
      have e1 : ((nI q).toInt64 * ((nI b).toInt64 + ((lN (ckN d) * ((100 : Int64) + ((nI a / nI (d 0 1))).toInt64)) / (100 : Int64)))) / (100 : Int64) = lN (ndN q b (ckN d) (d 0 1) a) := by
        rw [← nd_e hq hb (by omega) (show a ≤ 100000 by omega) o1 o2, nI_l (n := b) (by omega)]
        have e2 : a / d 0 1 ≤ a := Nat.div_le_self _ _
        rw [pk_div (by omega) o1 (by omega), show (100 : Int32) = nI 100 from rfl, nI_add, nI_l (n := 100 + a / d 0 1) (by omega), nI_l (n := a / d 0 1) (by omega), show (100 : Int64) = lN 100 from rfl, lN_add]
      rw [e1, nI_l (n := a) (by omega), nI_l (n := a + d 0 1) (by omega)]
      have e3 : lmax (lN a) (lN (ndN q b (ckN d) (d 0 1) a)) = lN (max a (ndN q b (ckN d) (d 0 1) a)) := by
        unfold lmax
        by_cases hc : ndN q b (ckN d) (d 0 1) a < a
        · rw [if_pos ((pk_lLT (by omega) (by omega)).mpr hc), Nat.max_eq_left (by omega)]
        · rw [if_neg (fun q' => hc ((pk_lLT (by omega) (by omega)).mp q')), Nat.max_eq_right (by omega)]
      rw [e3, show (100000 : Int64) = lN 100000 from rfl]
      have hmx : max a (ndN q b (ckN d) (d 0 1) a) ≤ 1000 * (100000 + 200000000 * 100100) := by omega
      have hnext : (∀ z, a ≤ z → z < a + d 0 1 → z ≤ 100000 → ¬ ndN q b (ckN d) (d 0 1) z ≤ z) → ∃ x, PuR q b (ckN d) (d 0 1) x ∧ f_X6_pushFor_L24 (fun y20 => some (y20).toInt32) (some (-1 : Int32)) σ (nI f) (nI q) (nI b) (lN (ckN d)) n (nI (a + d 0 1)) = some x := fun hh =>
        ih n (a + d 0 1) (by omega) (by omega) (by omega) (by rw [Nat.add_mod_right]; exact hm) (fun z z1 z2 => by
          by_cases hza : z < a
          · exact hz z hza z2
          · exact hh z (by omega) z1 z2)
      by_cases c1 : 100000 < max a (ndN q b (ckN d) (d 0 1) a)
      · rw [if_pos ((pk_lLT (by omega) (by omega)).mpr c1)]
        exact hnext (fun z z1 z2 z3 => by rw [hblk z z1 z2]; omega)
      · rw [if_neg (fun q' => c1 ((pk_lLT (by omega) (by omega)).mp q'))]
        by_cases c2 : a + d 0 1 ≤ max a (ndN q b (ckN d) (d 0 1) a)
        · rw [if_pos ((pk_lLE (by omega) (by omega)).mpr c2)]
          exact hnext (fun z z1 z2 z3 => by rw [hblk z z1 z2]; omega)
        · rw [if_neg (fun q' => c2 ((pk_lLE (by omega) (by omega)).mp q')), lN_i]
          refine ⟨_, Or.inl ⟨_, by omega, ?_, fun z hz1 hz2 => ?_, rfl⟩, rfl⟩
          · rw [hblk _ (by omega) (by omega)]; omega
          · by_cases hza : z < a
            · exact hz z hza (by omega) hz2
            · rw [hblk z (by omega) (by omega)] at hz2; omega
theorem M_push (hf : f < 9) (h : MFil σ f d) (ok : OKf d 20000000) {q : Nat} (hq : q ≤ 1000) : ∃ x, f_X6_pushFor σ (nI f) (nI q) = some x ∧ (if opD d then PuR q (bdN d) (ckN d) (d 0 1) x else x = -1) := by
  unfold f_X6_pushFor
  rw [M_bed hf h ok, bnd_e]
  by_cases ho : opD d = true
  · have hb := bdN_le ok
    have hk := ckN_le ok
    rw [ho, if_pos rfl, if_neg (fun q' => by
      have := congrArg Int32.toInt q'
      rw [nI_toInt (by omega)] at this
      have e : (-1 : Int32).toInt = -1 := by decide
      omega), M_ck hf h, bnd_e, wlet_e, nI_l (n := ckN d) (by omega), show (0 : Int32) = nI 0 from rfl]
    obtain ⟨x, hx, e⟩ := M_push_L hf h ok hq hb 100002 FU 0 (by omega) (by omega) (by decide) (Nat.zero_mod _) (fun z hz => by omega)
    exact ⟨x, e, by rw [if_pos rfl]; exact hx⟩
  · have ho : opD d = false := by simpa using ho
    rw [ho]
    exact ⟨-1, rfl, rfl⟩
/-- both push alike -/
theorem push_eq {σ' : Mem} (hX : XFil σ i ci d) (hf : f < 9) (hM : MFil σ' f d) (ok : OKf d 20000000) {q : Nat} (hq : q ≤ 1000) : ∃ x, f_X3_pushWith σ i (nI q) = some x ∧ f_X6_pushFor σ' (nI f) (nI q) = some x ∧ (if opD d then PuR q (bdN d) (ckN d) (d 0 1) x else x = -1) := by
  obtain ⟨x, e1, h1⟩ := X_push hX ok hq
  obtain ⟨y, e2, h2⟩ := M_push hf hM ok hq
  have : x = y := by
    cases ho : opD d
    · rw [ho] at h1 h2; exact h1.trans h2.symm
    · rw [ho] at h1 h2; exact PuR_eq h1 h2
  exact ⟨x, e1, by rw [this]; exact e2, h1⟩
end PU
