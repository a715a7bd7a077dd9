/-! the bounds stay -/
set_option maxRecDepth 100000
section
variable {u : Nat} {ρ ρ' : Nat → Nat}
theorem wB.ofD (w : wB u ρ) (h0 : ρ' 0 ≤ 6) (he : ∀ q, 1 ≤ q → q < 10 ∨ 22 ≤ q → ρ' q = ρ q) (hd : ∀ k, k < ρ' 0 → ρ' (10 + 2 * k) ≤ 9999 ∧ 1 ≤ ρ' (11 + 2 * k) ∧ ρ' (11 + 2 * k) ≤ 12 ∧ Nat.gcd (ρ' (10 + 2 * k)) (ρ' (11 + 2 * k)) = 1) : wB u ρ' := by
  obtain ⟨w1, w2, w3, w4, w5, w6⟩ := w
  refine ⟨?_, hd, fun k hk => ?_, fun k hk hk2 => ?_, fun k hk => ?_, fun k hk hk2 => ?_⟩
  · rw [he 1 (by omega) (by omega), he 2 (by omega) (by omega), he 3 (by omega) (by omega), he 4 (by omega) (by omega), he 5 (by omega) (by omega)]
    exact ⟨w1.1, h0, w1.2.2⟩
  · rw [he 1 (by omega) (by omega)] at hk
    rw [he _ (by omega) (by omega), he _ (by omega) (by omega)]
    exact w3 k hk
  · rw [he 1 (by omega) (by omega)] at hk2
    rw [he _ (by omega) (by omega)]
    exact w4 k hk hk2
  · rw [he 2 (by omega) (by omega)] at hk
    rw [he _ (by omega) (by omega), he _ (by omega) (by omega), he _ (by omega) (by omega)]
    exact w5 k hk
  · rw [he 2 (by omega) (by omega)] at hk2
    rw [he _ (by omega) (by omega)]
    exact w6 k hk hk2
theorem wB.ofB (w : wB u ρ) (h1 : ρ' 1 ≤ 5) (he : ∀ q, q ≠ 1 → q < 22 ∨ 32 ≤ q → ρ' q = ρ q) (hb : ∀ k, k < ρ' 1 → 1 ≤ ρ' (22 + 2 * k) ∧ ρ' (22 + 2 * k) ≤ 9999 ∧ ρ' (23 + 2 * k) ≤ ρ' (22 + 2 * k)) (hz : ∀ k, k < 5 → ρ' 1 ≤ k → ρ' (23 + 2 * k) = 0) : wB u ρ' := by
  obtain ⟨w1, w2, w3, w4, w5, w6⟩ := w
  refine ⟨?_, fun k hk => ?_, hb, hz, fun k hk => ?_, fun k hk hk2 => ?_⟩
  · rw [he 0 (by omega) (by omega), he 2 (by omega) (by omega), he 3 (by omega) (by omega), he 4 (by omega) (by omega), he 5 (by omega) (by omega)]
    exact ⟨w1.1, w1.2.1, h1, w1.2.2.2⟩
  · rw [he 0 (by omega) (by omega)] at hk
    rw [he _ (by omega) (by omega), he _ (by omega) (by omega)]
    exact w2 k hk
  · rw [he 2 (by omega) (by omega)] at hk
    rw [he _ (by omega) (by omega), he _ (by omega) (by omega), he _ (by omega) (by omega)]
    exact w5 k hk
  · rw [he 2 (by omega) (by omega)] at hk2
    rw [he _ (by omega) (by omega)]
    exact w6 k hk hk2
theorem wB.ofL (w : wB u ρ) (h2 : ρ' 2 ≤ 8) (he : ∀ q, q ≠ 2 → q < 32 → ρ' q = ρ q) (hl : ∀ k, k < ρ' 2 → 1 ≤ ρ' (32 + 3 * k) ∧ ρ' (32 + 3 * k) ≤ 20 ∧ 1 ≤ ρ' (33 + 3 * k) ∧ ρ' (33 + 3 * k) ≤ 60 ∧ ρ' (34 + 3 * k) ≤ 9999 * u) (hz : ∀ k, k < 8 → ρ' 2 ≤ k → ρ' (34 + 3 * k) = 0) : wB u ρ' := by
  obtain ⟨w1, w2, w3, w4, w5, w6⟩ := w
  refine ⟨?_, fun k hk => ?_, fun k hk => ?_, fun k hk hk2 => ?_, hl, hz⟩
  · rw [he 0 (by omega) (by omega), he 1 (by omega) (by omega), he 3 (by omega) (by omega), he 4 (by omega) (by omega), he 5 (by omega) (by omega)]
    exact ⟨w1.1, w1.2.1, w1.2.2.1, h2, w1.2.2.2.2⟩
  · rw [he 0 (by omega) (by omega)] at hk
    rw [he _ (by omega) (by omega), he _ (by omega) (by omega)]
    exact w2 k hk
  · rw [he 1 (by omega) (by omega)] at hk
    rw [he _ (by omega) (by omega), he _ (by omega) (by omega)]
    exact w3 k hk
  · rw [he 1 (by omega) (by omega)] at hk2
    rw [he _ (by omega) (by omega)]
    exact w4 k hk hk2
theorem wB.ofS (w : wB u ρ) (he : ∀ q, q ≠ 3 → q ≠ 4 → q ≠ 5 → ρ' q = ρ q) (h3 : ρ' 3 ≤ 4) (h4 : rul (ρ' 4)) (h5 : 1 ≤ ρ' 5 ∧ ρ' 5 ≤ 3) : wB u ρ' := by
  obtain ⟨w1, w2, w3, w4, w5, w6⟩ := w
  refine ⟨?_, fun k hk => ?_, fun k hk => ?_, fun k hk hk2 => ?_, fun k hk => ?_, fun k hk hk2 => ?_⟩
  · rw [he 0 (by omega) (by omega) (by omega), he 1 (by omega) (by omega) (by omega), he 2 (by omega) (by omega) (by omega)]
    exact ⟨w1.1, w1.2.1, w1.2.2.1, w1.2.2.2.1, h3, h4, h5.1, h5.2⟩
  · rw [he 0 (by omega) (by omega) (by omega)] at hk
    rw [he _ (by omega) (by omega) (by omega), he _ (by omega) (by omega) (by omega)]
    exact w2 k hk
  · rw [he 1 (by omega) (by omega) (by omega)] at hk
    rw [he _ (by omega) (by omega) (by omega), he _ (by omega) (by omega) (by omega)]
    exact w3 k hk
  · rw [he 1 (by omega) (by omega) (by omega)] at hk2
    rw [he _ (by omega) (by omega) (by omega)]
    exact w4 k hk hk2
  · rw [he 2 (by omega) (by omega) (by omega)] at hk
    rw [he _ (by omega) (by omega) (by omega), he _ (by omega) (by omega) (by omega), he _ (by omega) (by omega) (by omega)]
    exact w5 k hk
  · rw [he 2 (by omega) (by omega) (by omega)] at hk2
    rw [he _ (by omega) (by omega) (by omega)]
    exact w6 k hk hk2
theorem wB.mono {v : Nat} (w : wB u ρ) (h : u ≤ v) (hv : v ≤ 20000) : wB v ρ := by
  obtain ⟨w1, w2, w3, w4, w5, w6⟩ := w
  refine ⟨⟨hv, w1.2⟩, w2, w3, w4, fun k hk => ?_, w6⟩
  have := w5 k hk
  exact ⟨this.1, this.2.1, this.2.2.1, this.2.2.2.1, by omega⟩
theorem gcd_low {a b : Nat} (h : 0 < b) : Nat.gcd (a / Nat.gcd a b) (b / Nat.gcd a b) = 1 := by
  rw [Nat.gcd_div (Nat.gcd_dvd_left a b) (Nat.gcd_dvd_right a b)]
  exact Nat.div_self (Nat.gcd_pos_of_pos_right _ h)
theorem div_low {a b : Nat} (h : 0 < b) : 1 ≤ b / Nat.gcd a b := Nat.div_pos (Nat.gcd_le_right _ h) (Nat.gcd_pos_of_pos_right _ h)
/-- an amount put into dough k -/
theorem wB_std (w : wB u ρ) {k a b : Nat} (hk : k < ρ 0 ∨ k = ρ 0 ∧ k < 6) (h0 : 0 < b) (ha : a / Nat.gcd a b ≤ 9999) (hb : b / Nat.gcd a b ≤ 12) : ∀ j, j < ρ 0 ∨ j = k → std ρ k a b (10 + 2 * j) ≤ 9999 ∧ 1 ≤ std ρ k a b (11 + 2 * j) ∧ std ρ k a b (11 + 2 * j) ≤ 12 ∧ Nat.gcd (std ρ k a b (10 + 2 * j)) (std ρ k a b (11 + 2 * j)) = 1 := by
  intro j hj
  unfold std
  by_cases q : j = k
  · subst q
    rw [fup_n (by omega), fup_s, fup_s]
    exact ⟨ha, div_low h0, hb, gcd_low h0⟩
  · rw [fup_n (by omega), fup_n (by omega), fup_n (by omega), fup_n (by omega)]
    exact w.d (by omega)
theorem std_out {k a b q : Nat} (h : q ≠ 10 + 2 * k) (h' : q ≠ 11 + 2 * k) : std ρ k a b q = ρ q := by
  unfold std
  rw [fup_n h', fup_n h]
theorem wB_sd (w : wB u ρ) {k a b : Nat} (hk : k < ρ 0) (h0 : 0 < b) (ha : a / Nat.gcd a b ≤ 9999) (hb : b / Nat.gcd a b ≤ 12) : wB u (std ρ k a b) := by
  have b1 := w.b
  have e0 : std ρ k a b 0 = ρ 0 := std_out (by omega) (by omega)
  refine w.ofD (by rw [e0]; exact b1.2.1) (fun q h1 h2 => std_out (by omega) (by omega)) (fun j hj => ?_)
  rw [e0] at hj
  exact wB_std w (Or.inl hk) h0 ha hb j (Or.inl hj)
theorem wB_mkD (w : wB u ρ) {a b : Nat} (h6 : ρ 0 < 6) (ha : a ≤ 9999) (h0 : 1 ≤ b) (hb : b ≤ 12) : wB u (mkD ρ a b) := by
  have b1 := w.b
  have e0 : mkD ρ a b 0 = ρ 0 + 1 := fup_s
  have en : ∀ q, q ≠ 0 → mkD ρ a b q = std ρ (ρ 0) a b q := fun q hq => fup_n hq
  refine w.ofD (by rw [e0]; omega) (fun q h1 h2 => by rw [en q (by omega)]; exact std_out (by omega) (by omega)) (fun j hj => ?_)
  rw [e0] at hj
  rw [en _ (by omega), en _ (by omega)]
  exact wB_std w (Or.inr ⟨rfl, h6⟩) h0 (Nat.le_trans (Nat.div_le_self _ _) ha) (Nat.le_trans (Nat.div_le_self _ _) hb) j (by omega)
theorem wB_mxD (w : wB u ρ) {k j : Nat} (hk : k < ρ 0) (hj : j < ρ 0) (h1 : sAb ρ k j / Nat.gcd (sAb ρ k j) (sBe ρ k j) ≤ 9999) (h2 : sBe ρ k j / Nat.gcd (sAb ρ k j) (sBe ρ k j) ≤ 12) : wB u (mxD ρ k j) := by
  have z := sBe_b w hk hj
  have w1 := wB_sd w (k := k) (a := sAb ρ k j) (b := sBe ρ k j) hk (by omega) h1 h2
  exact wB_sd w1 (by rw [std_out (by omega) (by omega)]; exact hj) (by decide) (by decide) (by decide)
theorem wB_mkB (w : wB u ρ) {c : Nat} (h5 : ρ 1 < 5) (h1 : 1 ≤ c) (h2 : c ≤ 9999) : wB u (mkB ρ c) := by
  have b1 := w.b
  have e1 : mkB ρ c 1 = ρ 1 + 1 := fup_s
  have en : ∀ q, q ≠ 1 → q ≠ 22 + 2 * ρ 1 → mkB ρ c q = ρ q := fun q h h' => (fup_n h).trans (fup_n h')
  have ec : mkB ρ c (22 + 2 * ρ 1) = c := (fup_n (by omega)).trans fup_s
  refine w.ofB (by rw [e1]; omega) (fun q h h' => en q h (by omega)) (fun k hk => ?_) (fun k hk hk2 => ?_)
  · rw [e1] at hk
    rw [en (23 + 2 * k) (by omega) (by omega)]
    by_cases z : k = ρ 1
    · subst z
      rw [ec, w.2.2.2.1 (ρ 1) (by omega) (Nat.le_refl _)]
      omega
    · rw [en _ (by omega) (by omega)]
      exact w.o (by omega)
  · rw [e1] at hk2
    rw [en _ (by omega) (by omega)]
    exact w.2.2.2.1 k hk (by omega)
theorem wB_mkL (w : wB u ρ) {x t : Nat} (h8 : ρ 2 < 8) (h1 : 1 ≤ x) (h2 : x ≤ 20) (h3 : 1 ≤ t) (h4 : t ≤ 60) : wB u (mkL ρ x t) := by
  have b1 := w.b
  have e2 : mkL ρ x t 2 = ρ 2 + 1 := fup_s
  have en : ∀ q, q ≠ 2 → q ≠ 32 + 3 * ρ 2 → q ≠ 33 + 3 * ρ 2 → mkL ρ x t q = ρ q := fun q h h' h'' => (fup_n h).trans ((fup_n h'').trans (fup_n h'))
  have ex : mkL ρ x t (32 + 3 * ρ 2) = x := (fup_n (by omega)).trans ((fup_n (by omega)).trans fup_s)
  have et : mkL ρ x t (33 + 3 * ρ 2) = t := (fup_n (by omega)).trans fup_s
  refine w.ofL (by rw [e2]; omega) (fun q h h' => en q h (by omega) (by omega)) (fun k hk => ?_) (fun k hk hk2 => ?_)
  · rw [e2] at hk
    rw [en (34 + 3 * k) (by omega) (by omega) (by omega)]
    by_cases z : k = ρ 2
    · subst z
      rw [ex, et, w.2.2.2.2.2 (ρ 2) (by omega) (Nat.le_refl _)]
      omega
    · rw [en _ (by omega) (by omega) (by omega), en _ (by omega) (by omega) (by omega)]
      exact w.l (by omega)
  · rw [e2] at hk2
    rw [en _ (by omega) (by omega) (by omega)]
    exact w.2.2.2.2.2 k hk (by omega)
theorem slL_2 {i : Nat} : slL ρ i 2 = ρ 2 - 1 := if_pos rfl
theorem wB_slL (w : wB u ρ) {i : Nat} (hi : i < ρ 2) : wB u (slL ρ i) := by
  have b1 := w.b
  have en : ∀ q, q ≠ 2 → q < 32 + 3 * i → slL ρ i q = ρ q := fun q h h' => by unfold slL; rw [if_neg h, if_neg (by omega), if_neg (by omega)]
  have em : ∀ q, 32 + 3 * i ≤ q → q < 32 + 3 * (ρ 2 - 1) → slL ρ i q = ρ (q + 3) := fun q h h' => by unfold slL; rw [if_neg (by omega), if_pos ⟨h, h'⟩]
  have ez : ∀ q, 32 + 3 * (ρ 2 - 1) ≤ q → q < 35 + 3 * (ρ 2 - 1) → slL ρ i q = 0 := fun q h h' => by unfold slL; rw [if_neg (by omega), if_neg (by omega), if_pos ⟨h, h'⟩]
  have eo : ∀ q, 35 + 3 * (ρ 2 - 1) ≤ q → slL ρ i q = ρ q := fun q h => by unfold slL; rw [if_neg (by omega), if_neg (by omega), if_neg (by omega)]
  refine w.ofL (by rw [slL_2]; omega) (fun q h h' => en q h (by omega)) (fun k hk => ?_) (fun k hk hk2 => ?_)
  · rw [slL_2] at hk
    by_cases z : k < i
    · rw [en _ (by omega) (by omega), en _ (by omega) (by omega), en _ (by omega) (by omega)]
      exact w.l (by omega)
    · rw [em _ (by omega) (by omega), em _ (by omega) (by omega), em _ (by omega) (by omega)]
      exact w.l (k := k + 1) (by omega)
  · rw [slL_2] at hk2
    by_cases z : k = ρ 2 - 1
    · rw [z]; exact ez _ (by omega) (by omega)
    · rw [eo _ (by omega)]
      exact w.2.2.2.2.2 k hk (by omega)
theorem wB_em (w : wB u ρ) {k : Nat} (hk : k < ρ 1) : wB u (fup ρ (23 + 2 * k) 0) := by
  have b1 := w.b
  have e1 : fup ρ (23 + 2 * k) 0 1 = ρ 1 := fup_n (by omega)
  refine w.ofB (by rw [e1]; exact b1.2.2.1) (fun q h h' => fup_n (by omega)) (fun j hj => ?_) (fun j hj hj2 => ?_)
  · rw [e1] at hj
    rw [fup_n (q := 22 + 2 * j) (by omega)]
    have := w.o hj
    by_cases z : j = k
    · subst z; rw [fup_s]; omega
    · rw [fup_n (by omega)]; exact this
  · rw [e1] at hj2
    rw [fup_n (by omega)]
    exact w.2.2.2.1 j hj hj2
theorem wB_bkD (w : wB u ρ) {i : Nat} (hu : u < 20000) (hi : i < ρ 1) : wB (u + 1) (bkD ρ i) := by
  have b1 := w.b
  have o := w.o hi
  exact wB.bk (wB_em w hi) hu (by omega) (by rw [fup_n (by omega)]; exact Nat.le_refl _)
theorem prN_in (i l : Nat) (hw : ∀ k, k < ρ 1 → ρ (23 + 2 * k) ≤ ρ (22 + 2 * k)) : ∀ j, i + j ≤ ρ 1 → ∀ k, k < ρ 1 → (prN ρ i l j).1 (23 + 2 * k) ≤ ρ (22 + 2 * k) := by
  intro j
  induction j with
  | zero => intro _ k hk; exact hw k hk
  | succ j ih =>
    intro hj k hk
    show fup _ _ _ (23 + 2 * k) ≤ _
    by_cases z : k = i + j
    · subst z
      rw [fup_s, prN_out (q := 22 + 2 * (i + j)) (by omega), prN_out (q := 23 + 2 * (i + j)) (by omega)]
      have := hw (i + j) hk
      omega
    · rw [fup_n (by omega)]
      exact ih (by omega) k hk
theorem wB_poD (w : wB u ρ) {k i : Nat} (hk : k < ρ 0) (hi : i < ρ 1) : wB u (poD ρ k i).1 := by
  have b1 := w.b
  have w1 := wB_sd w (k := k) (a := 0) (b := 1) hk (by decide) (by decide) (by decide)
  have e1 : std ρ k 0 1 1 = ρ 1 := std_out (by omega) (by omega)
  have f1 : (poD ρ k i).1 1 = ρ 1 := (prN_out (by omega)).trans e1
  refine w1.ofB (by rw [f1]; exact b1.2.2.1) (fun q h h' => prN_out (by omega)) (fun j hj => ?_) (fun j hj hj2 => ?_)
  · rw [f1] at hj
    have e22 : (poD ρ k i).1 (22 + 2 * j) = std ρ k 0 1 (22 + 2 * j) := prN_out (by omega)
    have o := w1.o (k := j) (by rw [e1]; exact hj)
    rw [e22]
    refine ⟨o.1, o.2.1, prN_in i _ (fun q hq => (w1.o hq).2.2) (ρ 1 - i) (by rw [e1]; omega) j (by rw [e1]; exact hj)⟩
  · rw [f1] at hj2
    have e23 : (poD ρ k i).1 (23 + 2 * j) = std ρ k 0 1 (23 + 2 * j) := prN_out (by omega)
    rw [e23]
    exact w1.2.2.2.1 j hj (by rw [e1]; exact hj2)
theorem wB_3 (w : wB u ρ) {x : Nat} (h : x ≤ 4) : wB u (fup ρ 3 x) := by
  have b1 := w.b
  exact w.ofS (fun q h3 h4 h5 => fup_n h3) (by rw [fup_s]; exact h) (by rw [fup_n (by decide)]; exact b1.2.2.2.2.2.1) (by rw [fup_n (by decide)]; exact b1.2.2.2.2.2.2)
theorem wB_4 (w : wB u ρ) {x : Nat} (h : rul x) : wB u (fup ρ 4 x) := by
  have b1 := w.b
  exact w.ofS (fun q h3 h4 h5 => fup_n h4) (by rw [fup_n (by decide)]; exact b1.2.2.2.2.1) (by rw [fup_s]; exact h) (by rw [fup_n (by decide)]; exact b1.2.2.2.2.2.2)
theorem wB_5 (w : wB u ρ) {x : Nat} (h : 1 ≤ x) (h2 : x ≤ 3) : wB u (fup ρ 5 x) := by
  have b1 := w.b
  exact w.ofS (fun q h3 h4 h5 => fup_n h5) (by rw [fup_n (by decide)]; exact b1.2.2.2.2.1) (by rw [fup_n (by decide)]; exact b1.2.2.2.2.2.1) (by rw [fup_s]; exact ⟨h, h2⟩)
/-- a command keeps the bounds -/
theorem wB_dos (w : wB u ρ) {so : Nat} {N : Nat → Nat} (hu : u < 20000) (hs : srt so) (n0 : N 0 ≤ 9999) (hN1 : so = 100 ∨ so = 109 ∨ so = 108 ∨ so = 112 → N 1 ≤ 9999) (hr : so = 114 → rul (N 0)) (h0 : notN ρ so N = 0) : wB (u + 1) (dosR ρ so N) := by
  have b1 := w.b
  have up : ∀ {ρ' : Nat → Nat}, wB u ρ' → wB (u + 1) ρ' := fun z => z.mono (by omega) (by omega)
  rcases hs with e | e | e | e | e | e | e | e | e | e | e <;> rw [e] at h0 ⊢
  · have n1 := hN1 (by omega)
    have x1 := eAd_0 (knd_0 (show knd (eAd ρ (nI (N 0)) (nI (N 1))) 97 115 0 = 0 from h0) (by decide) (fun _ => by decide) (fun z => by have := eAd_b (ρ := ρ) (p := nI (N 0)) (q := nI (N 1)); omega) (by have := eAd_b (ρ := ρ) (p := nI (N 0)) (q := nI (N 1)); omega))
    rw [bt_nI (by omega), bt_nI (by omega)] at x1
    exact up (wB_mkD w (by omega) (by omega) (by omega) (by omega))
  · have n1 := hN1 (by omega)
    have x1 := eMx_0 (knd_0 (show knd (eMx ρ (nI (N 0)) (nI (N 1))) 105 97 117 = 0 from h0) (by decide) (fun _ => by decide) (fun _ => by decide) eMx_b)
    rw [ix_nI (by omega), ix_nI (by omega), tN_nI (by omega), tN_nI (by omega)] at x1
    exact up (wB_mxD w x1.1 x1.2.1 x1.2.2.2.1 x1.2.2.2.2)
  · have x1 := eBo_0 (knd_0 (show knd (eBo ρ (nI (N 0))) 97 115 0 = 0 from h0) (by decide) (fun _ => by decide) (fun z => by have := eBo_b (ρ := ρ) (p := nI (N 0)); omega) (by have := eBo_b (ρ := ρ) (p := nI (N 0)); omega))
    rw [bt_nI (by omega)] at x1
    exact up (wB_mkB w (by omega) (by omega) (by omega))
  · have n1 := hN1 (by omega)
    have x1 := eLo_0 (knd_0 (show knd (eLo ρ (nI (N 0)) (nI (N 1))) 97 115 0 = 0 from h0) (by decide) (fun _ => by decide) (fun z => by have := eLo_b (ρ := ρ) (p := nI (N 0)) (q := nI (N 1)); omega) (by have := eLo_b (ρ := ρ) (p := nI (N 0)) (q := nI (N 1)); omega))
    rw [bt_nI (by omega), bt_nI (by omega)] at x1
    exact up (wB_mkL w (by omega) (by omega) (by omega) (by omega) (by omega))
  · have x1 : ix (nI (N 0)) (ρ 2) := by
      have x : (if ix (nI (N 0)) (ρ 2) then 0 else 105) = 0 := h0
      exact Decidable.byContradiction fun z => by rw [if_neg z] at x; cases x
    rw [ix_nI (by omega)] at x1
    exact up (wB_slL w x1)
  · have x1 := eSc_0 (knd_0 (show knd (eSc ρ (nI (N 0))) 97 117 0 = 0 from h0) (by decide) (fun _ => by decide) (fun z => by have := eSc_b (ρ := ρ) (p := nI (N 0)); omega) (by have := eSc_b (ρ := ρ) (p := nI (N 0)); omega))
    rw [bt_nI (by omega)] at x1
    exact up (wB_3 w (by omega))
  · have n1 := hN1 (by omega)
    have x1 := ePo_0 (knd_0 (show knd (ePo ρ (nI (N 0)) (nI (N 1))) 105 0 0 = 0 from h0) (by decide) (fun z => by have := ePo_b (ρ := ρ) (p := nI (N 0)) (q := nI (N 1)); omega) (fun z => by have := ePo_b (ρ := ρ) (p := nI (N 0)) (q := nI (N 1)); omega) (by have := ePo_b (ρ := ρ) (p := nI (N 0)) (q := nI (N 1)); omega))
    rw [ix_nI (by omega), ix_nI (by omega)] at x1
    exact up (wB_poD w x1.1 x1.2)
  · have x1 : ix (nI (N 0)) (ρ 1) := by
      have x : (if ix (nI (N 0)) (ρ 1) then 0 else 105) = 0 := h0
      exact Decidable.byContradiction fun z => by rw [if_neg z] at x; cases x
    rw [ix_nI (by omega)] at x1
    exact up (wB_em w x1)
  · have x1 := eBa_0 (knd_0 (show knd (eBa ρ (nI (N 0))) 105 101 117 = 0 from h0) (by decide) (fun _ => by decide) (fun _ => by decide) eBa_b)
    rw [ix_nI (by omega)] at x1
    exact wB_bkD w hu x1.1
  · have x1 := eOv_0 (knd_0 (show knd (eOv (nI (N 0))) 97 0 0 = 0 from h0) (by decide) (fun z => by have := eOv_b (p := nI (N 0)); omega) (fun z => by have := eOv_b (p := nI (N 0)); omega) (by have := eOv_b (p := nI (N 0)); omega))
    rw [bt_nI (by omega)] at x1
    exact up (wB_5 w (by omega) (by omega))
  · exact up (wB_4 w (hr e))
end
