/-! the nearest fraction: what it is; by halves, by trying -/
set_option maxRecDepth 100000
/-- (x, y) is at least as good as (x2, y2), and ahead of it -/
def nBt (w b x y x2 y2 : Nat) : Prop := dd w b x y * y2 < dd w b x2 y2 * y ∨ dd w b x y * y2 = dd w b x2 y2 * y ∧ (y < y2 ∨ y = y2 ∧ x ≤ x2)
theorem nBt_tr {w b x y x2 y2 x3 y3 : Nat} (h1 : 0 < y) (h2 : 0 < y2) (h3 : 0 < y3) (p : nBt w b x y x2 y2) (q : nBt w b x2 y2 x3 y3) : nBt w b x y x3 y3 := by
  unfold nBt at p q ⊢
  generalize dd w b x y = A at p q ⊢
  generalize dd w b x2 y2 = B at p q ⊢
  generalize dd w b x3 y3 = C at p q ⊢
  have e1 : A * y2 * y3 = A * y3 * y2 := Nat.mul_right_comm ..
  have e2 : B * y * y3 = B * y3 * y := Nat.mul_right_comm ..
  have e3 : C * y2 * y = C * y * y2 := Nat.mul_right_comm ..
  rcases p with p | ⟨p, p2⟩
  · have i1 : A * y2 * y3 < B * y * y3 := Nat.mul_lt_mul_of_pos_right p h3
    rcases q with q | ⟨q, q2⟩
    · have i2 : B * y3 * y < C * y2 * y := Nat.mul_lt_mul_of_pos_right q h1
      left
      have : A * y3 * y2 < C * y * y2 := by omega
      exact Nat.lt_of_mul_lt_mul_right this
    · have i2 : B * y3 * y = C * y2 * y := by rw [q]
      left
      have : A * y3 * y2 < C * y * y2 := by omega
      exact Nat.lt_of_mul_lt_mul_right this
  · have i1 : A * y2 * y3 = B * y * y3 := by rw [p]
    rcases q with q | ⟨q, q2⟩
    · have i2 : B * y3 * y < C * y2 * y := Nat.mul_lt_mul_of_pos_right q h1
      left
      have : A * y3 * y2 < C * y * y2 := by omega
      exact Nat.lt_of_mul_lt_mul_right this
    · have i2 : B * y3 * y = C * y2 * y := by rw [q]
      right
      refine ⟨?_, by omega⟩
      have : A * y3 * y2 = C * y * y2 := by omega
      exact Nat.eq_of_mul_eq_mul_right h2 this
theorem nBt_anti {w b x y x2 y2 : Nat} (p : nBt w b x y x2 y2) (q : nBt w b x2 y2 x y) : x = x2 ∧ y = y2 := by
  unfold nBt at p q
  omega
theorem nBt_rf {w b x y : Nat} : nBt w b x y x y := Or.inr ⟨rfl, Or.inr ⟨rfl, Nat.le_refl _⟩⟩
/-- what is not tried: another numerator is worse than one of the two -/
theorem nBt_near {w b x y : Nat} (hb : 0 < b) (hy : 0 < y) : nBt w b (w * y / b) y x y ∨ nBt w b (w * y / b + 1) y x y := by
  have h1 := Nat.div_add_mod (w * y) b
  have h2 := Nat.mod_lt (w * y) hb
  have e0 : w * y / b * b = b * (w * y / b) := Nat.mul_comm ..
  rcases Nat.lt_or_ge (w * y / b) x with c | c
  · right
    have e1 : (w * y / b + 1) * b = w * y / b * b + b := by rw [Nat.add_mul, Nat.one_mul]
    have e2 : (w * y / b + 1) * b ≤ x * b := Nat.mul_le_mul_right _ c
    have e3 : dd w b (w * y / b + 1) y ≤ dd w b x y := by unfold dd; omega
    rcases Nat.lt_or_ge (dd w b (w * y / b + 1) y) (dd w b x y) with e4 | e4
    · exact Or.inl (Nat.mul_lt_mul_of_pos_right e4 hy)
    · exact Or.inr ⟨by rw [Nat.le_antisymm e3 e4], Or.inr ⟨rfl, c⟩⟩
  · left
    have e2 : x * b ≤ w * y / b * b := Nat.mul_le_mul_right _ c
    have e3 : dd w b (w * y / b) y ≤ dd w b x y := by unfold dd; omega
    rcases Nat.lt_or_ge (dd w b (w * y / b) y) (dd w b x y) with e4 | e4
    · exact Or.inl (Nat.mul_lt_mul_of_pos_right e4 hy)
    · refine Or.inr ⟨by rw [Nat.le_antisymm e3 e4], Or.inr ⟨rfl, ?_⟩⟩
      have e5 : dd w b x y = dd w b (w * y / b) y := Nat.le_antisymm e4 e3
      have e6 : x * b = w * y / b * b := by unfold dd at e5; omega
      exact Nat.le_of_eq (Nat.eq_of_mul_eq_mul_right hb e6).symm
/-- the best of what has denominators up to l -/
def isN (w b l x y : Nat) : Prop := 1 ≤ y ∧ y ≤ l ∧ ∀ x2 y2, 1 ≤ y2 → y2 ≤ l → nBt w b x y x2 y2
theorem isN_one {w b l x y x2 y2 : Nat} (p : isN w b l x y) (q : isN w b l x2 y2) : x = x2 ∧ y = y2 := nBt_anti (p.2.2 _ _ q.1 q.2.1) (q.2.2 _ _ p.1 p.2.1)
theorem nst_bt {w b : Nat} {c s : Nat × Nat} (hs : 1 ≤ s.2) (hc : 1 ≤ c.2) (ho : s.2 < c.2 ∨ s.2 = c.2 ∧ s.1 ≤ c.1) : nBt w b (nst w b c s).1 (nst w b c s).2 c.1 c.2 ∧ nBt w b (nst w b c s).1 (nst w b c s).2 s.1 s.2 ∧ (nst w b c s = c ∨ nst w b c s = s) := by
  by_cases z : s.2 = 0 ∨ dd w b c.1 c.2 * s.2 < dd w b s.1 s.2 * c.2
  · rw [nst_c z]
    exact ⟨nBt_rf, Or.inl (by omega), Or.inl rfl⟩
  · rw [nst_s z]
    refine ⟨?_, nBt_rf, Or.inr rfl⟩
    unfold nBt
    omega
theorem isN_nrF {w b : Nat} (hb : 0 < b) : ∀ l, isN w b (l + 1) (nrF w b (l + 1)).1 (nrF w b (l + 1)).2 := by
  intro l
  induction l with
  | zero =>
    have e1 : nst w b (w * (0 + 1) / b, 0 + 1) (nrF w b 0) = (w * (0 + 1) / b, 0 + 1) := nst_c (Or.inl rfl)
    have e2 : nrF w b (0 + 1) = nst w b (w * (0 + 1) / b + 1, 0 + 1) (w * (0 + 1) / b, 0 + 1) := by
      show nst w b _ (nst w b (w * (0 + 1) / b, 0 + 1) (nrF w b 0)) = _
      rw [e1]
    obtain ⟨q1, q2, q3⟩ := nst_bt (w := w) (b := b) (c := (w * (0 + 1) / b + 1, 0 + 1)) (s := (w * (0 + 1) / b, 0 + 1)) (Nat.le_refl _) (Nat.le_refl _) (Or.inr ⟨rfl, Nat.le_succ _⟩)
    rw [← e2] at q1 q2 q3
    have hy : (nrF w b (0 + 1)).2 = 1 := by rcases q3 with q3 | q3 <;> rw [q3]
    refine ⟨by omega, by omega, fun x2 y2 h1 h2 => ?_⟩
    have : y2 = 0 + 1 := by omega
    subst this
    rcases nBt_near (w := w) (b := b) (x := x2) (y := 0 + 1) hb (by omega) with z | z
    · exact nBt_tr (by omega) (by omega) (by omega) q2 z
    · exact nBt_tr (by omega) (by omega) (by omega) q1 z
  | succ l ih =>
    obtain ⟨i1, i2, i3⟩ := ih
    obtain ⟨p1, p2, p3⟩ := nst_bt (w := w) (b := b) (c := (w * (l + 1 + 1) / b, l + 1 + 1)) (s := nrF w b (l + 1)) i1 (by show 1 ≤ l + 1 + 1; omega) (Or.inl (by show _ < l + 1 + 1; omega))
    generalize hs : nst w b (w * (l + 1 + 1) / b, l + 1 + 1) (nrF w b (l + 1)) = s at p1 p2 p3
    have hs1 : 1 ≤ s.2 ∧ (s.2 < l + 1 + 1 ∨ s.2 = l + 1 + 1 ∧ s.1 ≤ w * (l + 1 + 1) / b + 1) := by
      rcases p3 with p3 | p3
      · rw [p3]; exact ⟨by show 1 ≤ l + 1 + 1; omega, Or.inr ⟨rfl, Nat.le_succ _⟩⟩
      · rw [p3]; exact ⟨i1, Or.inl (by omega)⟩
    obtain ⟨q1, q2, q3⟩ := nst_bt (w := w) (b := b) (c := (w * (l + 1 + 1) / b + 1, l + 1 + 1)) (s := s) hs1.1 (by show 1 ≤ l + 1 + 1; omega) hs1.2
    have e2 : nrF w b (l + 1 + 1) = nst w b (w * (l + 1 + 1) / b + 1, l + 1 + 1) s := by rw [← hs]; rfl
    rw [← e2] at q1 q2 q3
    have hy : 1 ≤ (nrF w b (l + 1 + 1)).2 ∧ (nrF w b (l + 1 + 1)).2 ≤ l + 1 + 1 := by
      rcases q3 with q3 | q3
      · rw [q3]; exact ⟨by show 1 ≤ l + 1 + 1; omega, Nat.le_refl _⟩
      · rw [q3]; omega
    refine ⟨hy.1, hy.2, fun x2 y2 h1 h2 => ?_⟩
    rcases Nat.lt_or_ge y2 (l + 1 + 1) with c | c
    · exact nBt_tr (by omega) hs1.1 (by omega) q2 (nBt_tr hs1.1 (by omega) (by omega) p2 (i3 x2 y2 h1 (by omega)))
    · have : y2 = l + 1 + 1 := by omega
      subst this
      rcases nBt_near (w := w) (b := b) (x := x2) (y := l + 1 + 1) hb (by omega) with z | z
      · exact nBt_tr (by omega) (by omega) (by omega) q2 (nBt_tr hs1.1 (by show 0 < l + 1 + 1; omega) (by omega) p1 z)
      · exact nBt_tr (by omega) (by omega) (by omega) q1 z
theorem nrF_is {w b l x y : Nat} (hb : 0 < b) (p : isN w b l x y) : (nrF w b l).1 = x ∧ (nrF w b l).2 = y := by
  obtain ⟨l, rfl⟩ : ∃ l', l = l' + 1 := ⟨l - 1, by have := p.1; have := p.2.1; omega⟩
  exact isN_one (isN_nrF hb l) p
/-! by trying -/
def nfF (w b d : Nat) : Nat := if dd w b (w * d / b) d ≤ dd w b (w * d / b + 1) d then w * d / b else w * d / b + 1
def trF (w b : Nat) : Nat → Nat
  | 0 => 1
  | k + 1 => if dd w b (nfF w b (k + 2)) (k + 2) * trF w b k < dd w b (nfF w b (trF w b k)) (trF w b k) * (k + 2) then k + 2 else trF w b k
theorem nf_bt {w b d x : Nat} (hb : 0 < b) (hd : 0 < d) : nBt w b (nfF w b d) d x d := by
  have h1 : nBt w b (nfF w b d) d (w * d / b) d := by
    unfold nfF nBt
    split
    · exact Or.inr ⟨rfl, Or.inr ⟨rfl, Nat.le_refl _⟩⟩
    · exact Or.inl (Nat.mul_lt_mul_of_pos_right (by omega) hd)
  have h2 : nBt w b (nfF w b d) d (w * d / b + 1) d := by
    unfold nfF nBt
    split
    · rename_i z
      rcases Nat.lt_or_ge (dd w b (w * d / b) d) (dd w b (w * d / b + 1) d) with c | c
      · exact Or.inl (Nat.mul_lt_mul_of_pos_right c hd)
      · exact Or.inr ⟨by rw [Nat.le_antisymm z c], Or.inr ⟨rfl, Nat.le_succ _⟩⟩
    · exact Or.inr ⟨rfl, Or.inr ⟨rfl, Nat.le_refl _⟩⟩
  rcases nBt_near (w := w) (b := b) (x := x) hb hd with z | z
  · exact nBt_tr hd hd hd h1 z
  · exact nBt_tr hd hd hd h2 z
theorem trF_is {w b : Nat} (hb : 0 < b) : ∀ k, isN w b (k + 1) (nfF w b (trF w b k)) (trF w b k) := by
  intro k
  induction k with
  | zero =>
    refine ⟨Nat.le_refl _, Nat.le_refl _, fun x2 y2 h1 h2 => ?_⟩
    have : y2 = 1 := by omega
    subst this
    exact nf_bt hb Nat.one_pos
  | succ k ih =>
    obtain ⟨i1, i2, i3⟩ := ih
    by_cases c : dd w b (nfF w b (k + 2)) (k + 2) * trF w b k < dd w b (nfF w b (trF w b k)) (trF w b k) * (k + 2)
    · have e : trF w b (k + 1) = k + 2 := if_pos c
      rw [e]
      have n1 : nBt w b (nfF w b (k + 2)) (k + 2) (nfF w b (trF w b k)) (trF w b k) := Or.inl c
      refine ⟨by omega, by omega, fun x2 y2 h1 h2 => ?_⟩
      rcases Nat.lt_or_ge y2 (k + 2) with c2 | c2
      · exact nBt_tr (by omega) (by omega) (by omega) n1 (i3 x2 y2 h1 (by omega))
      · have : y2 = k + 2 := by omega
        subst this
        exact nf_bt hb (by omega)
    · have e : trF w b (k + 1) = trF w b k := if_neg c
      rw [e]
      have n1 : nBt w b (nfF w b (trF w b k)) (trF w b k) (nfF w b (k + 2)) (k + 2) := by
        unfold nBt
        omega
      refine ⟨i1, by omega, fun x2 y2 h1 h2 => ?_⟩
      rcases Nat.lt_or_ge y2 (k + 2) with c2 | c2
      · exact i3 x2 y2 h1 (by omega)
      · have : y2 = k + 2 := by omega
        subst this
        exact nBt_tr (by omega) (by omega) (by omega) n1 (nf_bt hb (by omega))
theorem trF_b {w b : Nat} : ∀ k, 1 ≤ trF w b k ∧ trF w b k ≤ k + 1 := by
  intro k
  induction k with
  | zero => exact ⟨Nat.le_refl _, Nat.le_refl _⟩
  | succ k ih =>
    unfold trF
    split <;> omega
/-! by halves -/
/-- two neighbours about the number -/
def hvI (w b l lo p hi q : Nat) : Prop := 1 ≤ p ∧ p ≤ l ∧ 1 ≤ q ∧ q ≤ l ∧ lo * b ≤ w * p ∧ w * q < hi * b ∧ hi * p = lo * q + 1
theorem hvI_0 {w b l : Nat} (hb : 0 < b) (hl : 1 ≤ l) : hvI w b l (w / b) 1 (w / b + 1) 1 := by
  have h1 := Nat.div_add_mod w b
  have h2 := Nat.mod_lt w hb
  have e0 : w / b * b = b * (w / b) := Nat.mul_comm ..
  have e1 : (w / b + 1) * b = w / b * b + b := by rw [Nat.add_mul, Nat.one_mul]
  exact ⟨by omega, hl, by omega, hl, by omega, by omega, by omega⟩
theorem hvI_l {w b l lo p hi q : Nat} (i : hvI w b l lo p hi q) (hl : p + q ≤ l) (h : (lo + hi) * b ≤ (p + q) * w) : hvI w b l (lo + hi) (p + q) hi q := by
  obtain ⟨i1, i2, i3, i4, i5, i6, i7⟩ := i
  refine ⟨by omega, hl, i3, i4, by rw [Nat.mul_comm w]; exact h, i6, ?_⟩
  rw [Nat.mul_add, Nat.add_mul]
  omega
theorem hvI_h {w b l lo p hi q : Nat} (i : hvI w b l lo p hi q) (hl : p + q ≤ l) (h : ¬ (lo + hi) * b ≤ (p + q) * w) : hvI w b l lo p (lo + hi) (p + q) := by
  obtain ⟨i1, i2, i3, i4, i5, i6, i7⟩ := i
  refine ⟨i1, i2, by omega, hl, i5, by rw [Nat.mul_comm w]; omega, ?_⟩
  rw [Nat.mul_add, Nat.add_mul]
  omega
theorem hv_dvd {lo p hi q x y : Nat} (hp : 1 ≤ p) (hy : 1 ≤ y) (h7 : hi * p = lo * q + 1) (e : x * p = lo * y) : p < y ∨ p = y ∧ lo = x := by
  have e1 : hi * p * y = lo * q * y + y := by rw [h7, Nat.add_mul, Nat.one_mul]
  have e2 : lo * q * y = x * q * p := by
    rw [show lo * q * y = lo * y * q by ac_rfl, ← e]
    ac_rfl
  have e3 : hi * p * y = hi * y * p := by ac_rfl
  have e4 : hi * y * p = x * q * p + y := by omega
  have d : p ∣ y := (Nat.dvd_add_right (Nat.dvd_mul_left p (x * q))).mp (by rw [← e4]; exact Nat.dvd_mul_left p _)
  rcases Nat.lt_or_ge p y with c | c
  · exact Or.inl c
  · have : p = y := Nat.le_antisymm (Nat.le_of_dvd (by omega) d) c
    subst this
    exact Or.inr ⟨rfl, (Nat.eq_of_mul_eq_mul_right hp e).symm⟩
theorem hv_dvd2 {lo p hi q x y : Nat} (hq : 1 ≤ q) (hy : 1 ≤ y) (h7 : hi * p = lo * q + 1) (e : x * q = hi * y) : q < y ∨ q = y ∧ hi = x := by
  have e1 : hi * p * y = lo * q * y + y := by rw [h7, Nat.add_mul, Nat.one_mul]
  have e2 : hi * p * y = x * p * q := by
    rw [show hi * p * y = hi * y * p by ac_rfl, ← e]
    ac_rfl
  have e3 : lo * q * y = lo * y * q := by ac_rfl
  have e4 : x * p * q = lo * y * q + y := by omega
  have d : q ∣ y := (Nat.dvd_add_right (Nat.dvd_mul_left q (lo * y))).mp (by rw [← e4]; exact Nat.dvd_mul_left q _)
  rcases Nat.lt_or_ge q y with c | c
  · exact Or.inl c
  · have : q = y := Nat.le_antisymm (Nat.le_of_dvd (by omega) d) c
    subst this
    exact Or.inr ⟨rfl, (Nat.eq_of_mul_eq_mul_right hq e).symm⟩
theorem hv_bt {w b l lo p hi q x y : Nat} (i : hvI w b l lo p hi q) (hb : 0 < b) (hy : 1 ≤ y) (hl : y ≤ l) (hs : dd w b lo p = 0 ∨ l < p + q) : nBt w b lo p x y ∨ nBt w b hi q x y := by
  obtain ⟨i1, i2, i3, i4, i5, i6, i7⟩ := i
  have el : dd w b lo p = w * p - lo * b := by unfold dd; omega
  have eh : dd w b hi q = hi * b - w * q := by unfold dd; omega
  rcases Nat.lt_or_ge (lo * y) (x * p) with c1 | c1
  · rcases Nat.lt_or_ge (x * q) (hi * y) with c2 | c2
    · -- between the two
      have hyb : p + q ≤ y := by
        have e1 : hi * p * y = lo * q * y + y := by rw [i7, Nat.add_mul, Nat.one_mul]
        have e2 : p * (x * q + 1) ≤ p * (hi * y) := Nat.mul_le_mul_left _ c2
        have e3 : q * (lo * y + 1) ≤ q * (x * p) := Nat.mul_le_mul_left _ c1
        have e4 : p * (hi * y) = hi * p * y := by ac_rfl
        have e5 : q * (x * p) = p * (x * q) := by ac_rfl
        have e6 : q * (lo * y) = lo * q * y := by ac_rfl
        rw [Nat.mul_add] at e2 e3
        omega
      rcases hs with hs | hs
      · left
        left
        rw [hs, Nat.zero_mul]
        have e0 : w * p = lo * b := by omega
        have e1 : lo * y * b < x * p * b := Nat.mul_lt_mul_of_pos_right c1 hb
        have e2 : lo * y * b = w * y * p := by
          rw [show lo * y * b = lo * b * y by ac_rfl, ← e0]
          ac_rfl
        have e3 : x * p * b = x * b * p := by ac_rfl
        have e4 : w * y < x * b := Nat.lt_of_mul_lt_mul_right (a := p) (by omega)
        have e5 : 0 < dd w b x y := by unfold dd; omega
        exact Nat.mul_pos e5 i1
      · omega
    · -- above
      right
      have e1 : hi * y * b ≤ x * q * b := Nat.mul_le_mul_right _ c2
      have e2 : hi * y * b = hi * b * y := by ac_rfl
      have e3 : x * q * b = x * b * q := by ac_rfl
      have e4 : w * q * y = w * y * q := by ac_rfl
      have e5 : w * q * y < hi * b * y := Nat.mul_lt_mul_of_pos_right i6 hy
      have e6 : w * y < x * b := Nat.lt_of_mul_lt_mul_right (a := q) (by omega)
      have ex : dd w b x y = x * b - w * y := by unfold dd; omega
      unfold nBt
      rw [eh, ex, Nat.sub_mul, Nat.sub_mul]
      rcases Nat.lt_or_ge (hi * y) (x * q) with c3 | c3
      · have e7 : hi * y * b < x * q * b := Nat.mul_lt_mul_of_pos_right c3 hb
        left
        omega
      · have e7 : x * q = hi * y := Nat.le_antisymm c3 c2
        right
        refine ⟨by rw [← e2, ← e7, e3, e4], ?_⟩
        have := hv_dvd2 i3 hy i7 e7
        omega
  · -- below
    left
    have e1 : x * p * b ≤ lo * y * b := Nat.mul_le_mul_right _ c1
    have e2 : lo * y * b = lo * b * y := by ac_rfl
    have e3 : x * p * b = x * b * p := by ac_rfl
    have e4 : w * p * y = w * y * p := by ac_rfl
    have e5 : lo * b * y ≤ w * p * y := Nat.mul_le_mul_right _ i5
    have e6 : x * b ≤ w * y := Nat.le_of_mul_le_mul_right (c := p) (by omega) i1
    have ex : dd w b x y = w * y - x * b := by unfold dd; omega
    unfold nBt
    rw [el, ex, Nat.sub_mul, Nat.sub_mul]
    rcases Nat.lt_or_ge (x * p) (lo * y) with c3 | c3
    · have e7 : x * p * b < lo * y * b := Nat.mul_lt_mul_of_pos_right c3 hb
      left
      omega
    · have e7 : x * p = lo * y := Nat.le_antisymm c1 c3
      right
      refine ⟨by rw [← e2, ← e7, e3, e4], ?_⟩
      have := hv_dvd i1 hy i7 e7
      omega
/-- the low one is nearer -/
abbrev hvL (w b lo p hi q : Nat) : Prop := dd w b lo p * q < dd w b hi q * p ∨ dd w b lo p * q = dd w b hi q * p ∧ p ≤ q
theorem hv_end {w b l lo p hi q : Nat} (i : hvI w b l lo p hi q) (hb : 0 < b) (hs : dd w b lo p = 0 ∨ l < p + q) : (hvL w b lo p hi q → isN w b l lo p) ∧ (¬ hvL w b lo p hi q → isN w b l hi q) := by
  have i0 := i
  obtain ⟨i1, i2, i3, i4, i5, i6, i7⟩ := i
  have hlt : p = q → lo ≤ hi := fun e => by
    subst e
    have : lo * p ≤ hi * p := by omega
    exact Nat.le_of_mul_le_mul_right this i1
  refine ⟨fun c => ⟨i1, i2, fun x y h1 h2 => ?_⟩, fun c => ⟨i3, i4, fun x y h1 h2 => ?_⟩⟩
  · have n1 : nBt w b lo p hi q := by unfold nBt; omega
    rcases hv_bt (x := x) i0 hb h1 h2 hs with z | z
    · exact z
    · exact nBt_tr i1 i3 h1 n1 z
  · have n1 : nBt w b hi q lo p := by unfold nBt; omega
    rcases hv_bt (x := x) i0 hb h1 h2 hs with z | z
    · exact nBt_tr i3 i1 h1 n1 z
    · exact z
