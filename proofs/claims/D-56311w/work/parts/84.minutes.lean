/-! baking greedily: the loaves in order of their minutes, the oven that is free first -/
set_option maxRecDepth 100000
theorem frO_is {T : Nat → Nat} : ∀ k, k < 4 → ∀ j, j ≤ k → 4 * T (frO T k) + frO T k ≤ 4 * T j + j := by
  intro k
  induction k with
  | zero =>
    intro _ j hj
    have : j = 0 := by omega
    subst this
    exact Nat.le_refl _
  | succ k ih =>
    intro hk j hj
    have i0 := fun j hj => ih (by omega) j hj
    have l := @frO_le T k
    have a := i0 (frO T k) l
    by_cases c : T (k + 1) < T (frO T k)
    · have e : frO T (k + 1) = k + 1 := if_pos c
      rw [e]
      by_cases e2 : j = k + 1
      · rw [e2]; exact Nat.le_refl _
      · have := i0 j (by omega)
        omega
    · have e : frO T (k + 1) = frO T k := if_neg c
      rw [e]
      by_cases e2 : j = k + 1
      · rw [e2]; omega
      · exact i0 j (by omega)
theorem frO_one {T : Nat → Nat} {k i : Nat} (hk : k < 4) (hi : i ≤ k) (h : ∀ j, j ≤ k → 4 * T i + i ≤ 4 * T j + j) : i = frO T k := by
  have l := @frO_le T k
  have h1 := h (frO T k) l
  have h2 := frO_is (T := T) k hk i hi
  omega
/-- the loaves with m minutes, of the first j -/
def flM (ρ : Nat → Nat) (m j : Nat) : List Nat := (List.range j).filter fun i => ρ (33 + 3 * i) = m
theorem flM_s {ρ : Nat → Nat} {m j : Nat} : flM ρ m (j + 1) = flM ρ m j ++ if ρ (33 + 3 * j) = m then [j] else [] := by
  unfold flM
  rw [List.range_succ, List.filter_append]
  by_cases c : ρ (33 + 3 * j) = m
  · simp [c]
  · simp [c]
/-- those with sixty minutes, and so on: k times -/
def srM (ρ : Nat → Nat) : Nat → List Nat
  | 0 => []
  | k + 1 => srM ρ k ++ flM ρ (60 - k) (ρ 2)
theorem srM_mem {ρ : Nat → Nat} : ∀ k, k ≤ 60 → ∀ i ∈ srM ρ k, i < ρ 2 ∧ 60 < ρ (33 + 3 * i) + k := by
  intro k
  induction k with
  | zero => intro _ i hi; cases hi
  | succ k ih =>
    intro hk i hi
    rcases List.mem_append.mp hi with hi | hi
    · have := ih (by omega) i hi
      omega
    · obtain ⟨h1, h2⟩ := List.mem_filter.mp hi
      have h1 := List.mem_range.mp h1
      have h2 : ρ (33 + 3 * i) = 60 - k := by simpa using h2
      omega
theorem srM_pw {ρ : Nat → Nat} : ∀ k, k ≤ 60 → (srM ρ k).Pairwise fun a b => ρ (32 + 3 * b + 1) < ρ (32 + 3 * a + 1) ∨ ρ (32 + 3 * a + 1) = ρ (32 + 3 * b + 1) ∧ a < b := by
  intro k
  induction k with
  | zero => intro _; exact List.Pairwise.nil
  | succ k ih =>
    intro hk
    have e : ∀ a, 32 + 3 * a + 1 = 33 + 3 * a := fun a => by omega
    refine List.pairwise_append.mpr ⟨ih (by omega), ?_, fun a ha b hb => ?_⟩
    · unfold flM
      rw [List.pairwise_filter]
      refine List.pairwise_lt_range.imp fun {a b} h h1 h2 => Or.inr ⟨?_, h⟩
      have h1 : ρ (33 + 3 * a) = 60 - k := by simpa using h1
      have h2 : ρ (33 + 3 * b) = 60 - k := by simpa using h2
      rw [e, e, h1, h2]
    · have h1 := srM_mem k (by omega) a ha
      obtain ⟨-, h2⟩ := List.mem_filter.mp hb
      have h2 : ρ (33 + 3 * b) = 60 - k := by simpa using h2
      rw [e, e]
      omega
theorem srM_perm {ρ : Nat → Nat} (hb : ∀ i, i < ρ 2 → ρ (33 + 3 * i) ≤ 60) : ∀ k, k ≤ 60 → (srM ρ k ++ (List.range (ρ 2)).filter fun i => ρ (33 + 3 * i) ≤ 60 - k).Perm (List.range (ρ 2)) := by
  intro k
  induction k with
  | zero =>
    intro _
    show ((List.range (ρ 2)).filter fun i => ρ (33 + 3 * i) ≤ 60 - 0).Perm _
    rw [List.filter_eq_self.mpr fun i hi => by simpa using hb i (List.mem_range.mp hi)]
  | succ k ih =>
    intro hk
    refine List.Perm.trans ?_ (ih (by omega))
    show ((srM ρ k ++ flM ρ (60 - k) (ρ 2)) ++ _).Perm _
    rw [List.append_assoc]
    refine List.Perm.append_left _ ?_
    have h := List.filter_append_perm (fun i => decide (ρ (33 + 3 * i) = 60 - k)) ((List.range (ρ 2)).filter fun i => ρ (33 + 3 * i) ≤ 60 - k)
    rw [List.filter_filter, List.filter_filter] at h
    have e1 : (List.range (ρ 2)).filter (fun a => decide (ρ (33 + 3 * a) = 60 - k) && decide (ρ (33 + 3 * a) ≤ 60 - k)) = flM ρ (60 - k) (ρ 2) := by
      unfold flM
      refine List.filter_congr fun i _ => ?_
      by_cases c : ρ (33 + 3 * i) = 60 - k <;> simp [c]
    have e2 : (List.range (ρ 2)).filter (fun a => (!decide (ρ (33 + 3 * a) = 60 - k)) && decide (ρ (33 + 3 * a) ≤ 60 - k)) = (List.range (ρ 2)).filter fun i => ρ (33 + 3 * i) ≤ 60 - (k + 1) := by
      refine List.filter_congr fun i _ => ?_
      have : (ρ (33 + 3 * i) ≠ 60 - k ∧ ρ (33 + 3 * i) ≤ 60 - k) ↔ ρ (33 + 3 * i) ≤ 60 - (k + 1) := by omega
      rw [← decide_not, ← Bool.decide_and]
      exact decide_eq_decide.mpr this
    rw [e1, e2] at h
    exact h
theorem srM_all {ρ : Nat → Nat} (hb : ∀ i, i < ρ 2 → 1 ≤ ρ (33 + 3 * i) ∧ ρ (33 + 3 * i) ≤ 60) : (srM ρ 60).Perm (List.range (ρ 2)) := by
  have h := srM_perm (fun i hi => (hb i hi).2) 60 (Nat.le_refl _)
  rw [List.filter_eq_nil_iff.mpr fun i hi => by have := (hb i (List.mem_range.mp hi)).1; simp; omega, List.append_nil] at h
  exact h
theorem srM_at {ρ : Nat → Nat} (h8 : ρ 2 ≤ 8) (hb : ∀ i, i < ρ 2 → 1 ≤ ρ (33 + 3 * i) ∧ ρ (33 + 3 * i) ≤ 60) {r : Nat} (hr : r < ρ 2) : (srM ρ 60)[r]? = some (lAr ρ r) := by
  have hp := srM_all hb
  have hs := srM_pw (ρ := ρ) 60 (Nat.le_refl _)
  have hl := hp.length_eq
  rw [List.length_range] at hl
  obtain ⟨a, q1, q2, q3⟩ := lAt_rk (w := 1) (r := r) (ρ := ρ) hr h8
  have e : lAr ρ r = a := by unfold lAr; rw [q1]; rfl
  rw [e]
  obtain ⟨r2, h2⟩ := List.getElem?_of_mem (hp.mem_iff.mpr (List.mem_range.mpr q2))
  have := rkL_pos hp hs h2
  rw [← q3, this]
  exact h2
