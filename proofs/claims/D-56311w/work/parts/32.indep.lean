/-! a script's meaning doesn't depend on the numbers that were there before -/
set_option maxRecDepth 100000
theorem runT_i {t : List Nat} : ∀ (r : List Nat) (i : Nat) (N N' : Nat → Nat), (runT t r (i, N)).1 = (runT t r (i, N')).1 ∧ (runT t r (i, N)).2.1 = (runT t r (i, N')).2.1 ∧ ∀ k, (runT t r (i, N)).1 = true → (1000 + k ∈ r ∨ 2000 + k ∈ r ∨ (k = 0 ∧ 3000 ∈ r) ∨ N k = N' k) → k < 2 → (∀ c, c ∈ r → c < 1000 ∨ c = 1000 ∨ c = 1001 ∨ c = 2000 ∨ c = 2001 ∨ c = 3000) → (runT t r (i, N)).2.2 k = (runT t r (i, N')).2.2 k := by
  intro r
  induction r with
  | nil =>
    intro i N N'
    refine ⟨rfl, rfl, fun k _ hk _ _ => ?_⟩
    rcases hk with z | z | ⟨_, z⟩ | z
    · cases z
    · cases z
    · cases z
    · exact z
  | cons c r ih =>
    intro i N N'
    have dec : ∀ x, x ∈ c :: r → x = c ∨ x ∈ r := fun x z => List.mem_cons.mp z
    -- the step: the numbers behind the first token are Q over N, and Q' over N'
    have step : ∀ (Q Q' : Nat → Nat) (k : Nat), (Q k = Q' k ∨ ((N k = N' k → Q k = Q' k) ∧ c ≠ 1000 + k ∧ c ≠ 2000 + k ∧ (k = 0 → c ≠ 3000))) → (1000 + k ∈ c :: r ∨ 2000 + k ∈ c :: r ∨ (k = 0 ∧ 3000 ∈ c :: r) ∨ N k = N' k) → (1000 + k ∈ r ∨ 2000 + k ∈ r ∨ (k = 0 ∧ 3000 ∈ r) ∨ Q k = Q' k) := by
      intro Q Q' k hQ hk
      rcases hQ with z | ⟨z, z1, z2, z3⟩
      · exact Or.inr (Or.inr (Or.inr z))
      · rcases hk with y | y | ⟨y0, y⟩ | y
        · exact Or.inl ((dec _ y).resolve_left fun e => z1 e.symm)
        · exact Or.inr (Or.inl ((dec _ y).resolve_left fun e => z2 e.symm))
        · exact Or.inr (Or.inr (Or.inl ⟨y0, (dec _ y).resolve_left fun e => z3 y0 e.symm⟩))
        · exact Or.inr (Or.inr (Or.inr (z y)))
    have rest : ∀ {hc : ∀ c_1, c_1 ∈ c :: r → c_1 < 1000 ∨ c_1 = 1000 ∨ c_1 = 1001 ∨ c_1 = 2000 ∨ c_1 = 2001 ∨ c_1 = 3000}, ∀ c, c ∈ r → c < 1000 ∨ c = 1000 ∨ c = 1001 ∨ c = 2000 ∨ c = 2001 ∨ c = 3000 := fun {hc} c z => hc c (List.mem_cons_of_mem _ z)
    have fin : ∀ (M M' : Nat → Nat) (i' : Nat), runT t (c :: r) (i, N) = runT t r (i', M) → runT t (c :: r) (i, N') = runT t r (i', M') → (∀ k, k < 2 → (M k = M' k ∨ ((N k = N' k → M k = M' k) ∧ c ≠ 1000 + k ∧ c ≠ 2000 + k ∧ (k = 0 → c ≠ 3000)))) → (runT t (c :: r) (i, N)).1 = (runT t (c :: r) (i, N')).1 ∧ (runT t (c :: r) (i, N)).2.1 = (runT t (c :: r) (i, N')).2.1 ∧ ∀ k, (runT t (c :: r) (i, N)).1 = true → (1000 + k ∈ c :: r ∨ 2000 + k ∈ c :: r ∨ (k = 0 ∧ 3000 ∈ c :: r) ∨ N k = N' k) → k < 2 → (∀ c_1, c_1 ∈ c :: r → c_1 < 1000 ∨ c_1 = 1000 ∨ c_1 = 1001 ∨ c_1 = 2000 ∨ c_1 = 2001 ∨ c_1 = 3000) → (runT t (c :: r) (i, N)).2.2 k = (runT t (c :: r) (i, N')).2.2 k := by
      intro M M' i' e e' hM
      rw [e, e']
      have z := ih i' M M'
      exact ⟨z.1, z.2.1, fun k h hk h2 hc => z.2.2 k h (step M M' k (hM k h2) hk) h2 (rest (hc := hc))⟩
    have bad : ∀ (i' : Nat), runT t (c :: r) (i, N) = (false, i', N) → runT t (c :: r) (i, N') = (false, i', N') → (runT t (c :: r) (i, N)).1 = (runT t (c :: r) (i, N')).1 ∧ (runT t (c :: r) (i, N)).2.1 = (runT t (c :: r) (i, N')).2.1 ∧ ∀ k, (runT t (c :: r) (i, N)).1 = true → (1000 + k ∈ c :: r ∨ 2000 + k ∈ c :: r ∨ (k = 0 ∧ 3000 ∈ c :: r) ∨ N k = N' k) → k < 2 → (∀ c_1, c_1 ∈ c :: r → c_1 < 1000 ∨ c_1 = 1000 ∨ c_1 = 1001 ∨ c_1 = 2000 ∨ c_1 = 2001 ∨ c_1 = 3000) → (runT t (c :: r) (i, N)).2.2 k = (runT t (c :: r) (i, N')).2.2 k := by
      intro i' e e'
      rw [e, e']
      exact ⟨rfl, rfl, fun k h => by cases h⟩
    by_cases h1 : c < 1000
    · by_cases z : isC t i c
      · exact fin N N' _ (runT_cy h1 z) (runT_cy h1 z) fun k hk => Or.inr ⟨id, by omega, by omega, by omega⟩
      · exact bad i (runT_cn h1 z) (runT_cn h1 z)
    · by_cases h2 : c < 2000
      · have un : ∀ M, runT t (c :: r) (i, M) = if isD t i then runT t r (i + 1, fup M (c - 1000) (t.getD i 0 - 48)) else (false, i, M) := fun M => by
          show (if c < 1000 then _ else if c < 2000 then _ else _) = _
          rw [if_neg h1, if_pos h2]
        by_cases z : isD t i
        · refine fin _ _ _ ((un N).trans (if_pos z)) ((un N').trans (if_pos z)) fun k hk => ?_
          by_cases y : k = c - 1000
          · subst y; exact Or.inl (by rw [fup_s, fup_s])
          · exact Or.inr ⟨fun e => by rw [fup_n y, fup_n y]; exact e, by omega, by omega, by omega⟩
        · exact bad i ((un N).trans (if_neg z)) ((un N').trans (if_neg z))
      · by_cases h3 : c < 3000
        · have un : ∀ M, runT t (c :: r) (i, M) = if isD t i then runT t r ((nuR t (i + 1) (t.getD i 0 - 48) 3).1, fup M (c - 2000) (nuR t (i + 1) (t.getD i 0 - 48) 3).2) else (false, i, M) := fun M => by
            show (if c < 1000 then _ else if c < 2000 then _ else if c < 3000 then _ else _) = _
            rw [if_neg h1, if_neg h2, if_pos h3]
          by_cases z : isD t i
          · refine fin _ _ _ ((un N).trans (if_pos z)) ((un N').trans (if_pos z)) fun k hk => ?_
            by_cases y : k = c - 2000
            · subst y; exact Or.inl (by rw [fup_s, fup_s])
            · exact Or.inr ⟨fun e => by rw [fup_n y, fup_n y]; exact e, by omega, by omega, by omega⟩
          · exact bad i ((un N).trans (if_neg z)) ((un N').trans (if_neg z))
        · have un : ∀ M, runT t (c :: r) (i, M) = if isR t i then runT t r (i + 1, fup M 0 (t.getD i 0)) else (false, i, M) := fun M => by
            show (if c < 1000 then _ else if c < 2000 then _ else if c < 3000 then _ else _) = _
            rw [if_neg h1, if_neg h2, if_neg h3]
          by_cases z : isR t i
          · refine fin _ _ _ ((un N).trans (if_pos z)) ((un N').trans (if_pos z)) fun k hk => ?_
            by_cases y : k = 0
            · subst y; exact Or.inl (by rw [fup_s, fup_s])
            · exact Or.inr ⟨fun e => by rw [fup_n y, fup_n y]; exact e, by omega, by omega, fun e => absurd e y⟩
          · exact bad i ((un N).trans (if_neg z)) ((un N').trans (if_neg z))
abbrev two (so : Nat) : Prop := so = 100 ∨ so = 109 ∨ so = 108 ∨ so = 112
/-- a command read over other numbers -/
def sameC (X X' : Nat × Bool × Nat × (Nat → Nat)) : Prop := X.1 = X'.1 ∧ X.2.1 = X'.2.1 ∧ X.2.2.1 = X'.2.2.1 ∧ (X.2.1 = true → X.2.2.2 0 = X'.2.2.2 0 ∧ (two X.1 → X.2.2.2 1 = X'.2.2.2 1))
theorem sE {k : Nat} {r : List Nat} {N N' : Nat → Nat} (h : 1000 + k ∈ r ∨ 2000 + k ∈ r ∨ (k = 0 ∧ 3000 ∈ r)) : 1000 + k ∈ r ∨ 2000 + k ∈ r ∨ (k = 0 ∧ 3000 ∈ r) ∨ N k = N' k := by
  rcases h with z | z | z
  · exact Or.inl z
  · exact Or.inr (Or.inl z)
  · exact Or.inr (Or.inr (Or.inl z))
theorem same2 {t r : List Nat} {so i : Nat} {N N' : Nat → Nat} (h0 : 1000 + 0 ∈ r ∨ 2000 + 0 ∈ r ∨ (0 = 0 ∧ 3000 ∈ r)) (h1 : two so → 1000 + 1 ∈ r ∨ 2000 + 1 ∈ r ∨ (1 = 0 ∧ 3000 ∈ r)) (hc : ∀ c, c ∈ r → c < 1000 ∨ c = 1000 ∨ c = 1001 ∨ c = 2000 ∨ c = 2001 ∨ c = 3000) : sameC (so, runT t r (i, N)) (so, runT t r (i, N')) := by
  have z := runT_i (t := t) r i N N'
  exact ⟨rfl, z.1, z.2.1, fun h => ⟨z.2.2 0 h (sE h0) (by decide) hc, fun y => z.2.2 1 h (sE (h1 y)) (by decide) hc⟩⟩
theorem cmd_i {t : List Nat} {i : Nat} {N N' : Nat → Nat} : sameC (cmd t (i, N)) (cmd t (i, N')) := by
  unfold cmd
  by_cases h1 : isC t i 100
  · rw [if_pos h1, if_pos h1]; exact same2 (by decide) (fun _ => by decide) (by decide)
  · rw [if_neg h1, if_neg h1]
    by_cases h2 : isC t i 109
    · rw [if_pos h2, if_pos h2]; exact same2 (by decide) (fun _ => by decide) (by decide)
    · rw [if_neg h2, if_neg h2]
      by_cases h3 : isC t i 98
      · rw [if_pos h3, if_pos h3]
        unfold cmdB
        dsimp only
        by_cases z : isC t (i + 1) 111
        · rw [if_pos z, if_pos z]; exact same2 (by decide) (fun y => absurd y (by decide)) (by decide)
        · rw [if_neg z, if_neg z]; exact same2 (by decide) (fun y => absurd y (by decide)) (by decide)
      · rw [if_neg h3, if_neg h3]
        by_cases h4 : isC t i 108
        · rw [if_pos h4, if_pos h4]; exact same2 (by decide) (fun _ => by decide) (by decide)
        · rw [if_neg h4, if_neg h4]
          by_cases h5 : isC t i 115
          · rw [if_pos h5, if_pos h5]
            unfold cmdS
            dsimp only
            by_cases z : isC t (i + 1) 101
            · rw [if_pos z, if_pos z]; exact same2 (by decide) (fun y => absurd y (by decide)) (by decide)
            · rw [if_neg z, if_neg z]; exact same2 (by decide) (fun y => absurd y (by decide)) (by decide)
          · rw [if_neg h5, if_neg h5]
            by_cases h6 : isC t i 114
            · rw [if_pos h6, if_pos h6]; exact same2 (by decide) (fun y => absurd y (by decide)) (by decide)
            · rw [if_neg h6, if_neg h6]
              by_cases h7 : isC t i 112
              · rw [if_pos h7, if_pos h7]; exact same2 (by decide) (fun _ => by decide) (by decide)
              · rw [if_neg h7, if_neg h7]
                by_cases h8 : isC t i 101
                · rw [if_pos h8, if_pos h8]; exact same2 (by decide) (fun y => absurd y (by decide)) (by decide)
                · rw [if_neg h8, if_neg h8]; exact same2 (by decide) (fun y => absurd y (by decide)) (by decide)
theorem pA_i {t : List Nat} : ∀ (f i : Nat) (N N' : Nat → Nat), (pA t f (i, N)).1 = (pA t f (i, N')).1 ∧ (pA t f (i, N)).2.1 = (pA t f (i, N')).2.1 := by
  intro f
  induction f with
  | zero => intro i N N'; exact ⟨rfl, rfl⟩
  | succ f ih =>
    intro i N N'
    obtain ⟨c1, c2, c3, -⟩ := cmd_i (t := t) (i := i) (N := N) (N' := N')
    have un : ∀ M, pA t (f + 1) (i, M) = if (cmd t (i, M)).2.1 = true then (if isC t (cmd t (i, M)).2.2.1 59 then pA t f ((cmd t (i, M)).2.2.1 + 1, (cmd t (i, M)).2.2.2) else (decide ((cmd t (i, M)).2.2.1 = t.length), (cmd t (i, M)).2.2)) else (false, (cmd t (i, M)).2.2) := fun M => rfl
    rw [un N, un N', ← c2]
    by_cases z : (cmd t (i, N)).2.1 = true
    · rw [if_pos z, if_pos z, ← c3]
      by_cases y : isC t (cmd t (i, N)).2.2.1 59
      · rw [if_pos y, if_pos y]; exact ih _ _ _
      · rw [if_neg y, if_neg y]; exact ⟨rfl, c3⟩
    · rw [if_neg z, if_neg z]; exact ⟨rfl, c3⟩
theorem notN_i {ρ : Nat → Nat} {so : Nat} {N N' : Nat → Nat} (h0 : N 0 = N' 0) (h1 : two so → N 1 = N' 1) : notN ρ so N = notN ρ so N' := by
  unfold notN
  rw [h0]
  by_cases z : two so
  · rw [h1 z]
  · rw [if_neg (fun y => z (by omega)), if_neg (c := so = 109) (fun y => z (by omega)), if_neg (c := so = 108) (fun y => z (by omega)), if_neg (c := so = 112) (fun y => z (by omega)), if_neg (c := so = 100) (fun y => z (by omega)), if_neg (c := so = 109) (fun y => z (by omega)), if_neg (c := so = 108) (fun y => z (by omega)), if_neg (c := so = 112) (fun y => z (by omega))]
theorem dosR_i {ρ : Nat → Nat} {so : Nat} {N N' : Nat → Nat} (h0 : N 0 = N' 0) (h1 : two so → N 1 = N' 1) : dosR ρ so N = dosR ρ so N' := by
  unfold dosR
  rw [h0]
  by_cases z : two so
  · rw [h1 z]
  · rw [if_neg (c := so = 100) (fun y => z (by omega)), if_neg (c := so = 100) (fun y => z (by omega)), if_neg (c := so = 109) (fun y => z (by omega)), if_neg (c := so = 109) (fun y => z (by omega)), if_neg (c := so = 108) (fun y => z (by omega)), if_neg (c := so = 108) (fun y => z (by omega)), if_neg (c := so = 112) (fun y => z (by omega)), if_neg (c := so = 112) (fun y => z (by omega))]
theorem dosA_i {ρ : Nat → Nat} {α : Nat → Int64} {so : Nat} {N N' : Nat → Nat} (h0 : N 0 = N' 0) (h1 : two so → N 1 = N' 1) : dosA ρ α so N = dosA ρ α so N' := by
  unfold dosA
  rw [h0]
  by_cases z : two so
  · rw [h1 z]
  · rw [if_neg (c := so = 112) (fun y => z (by omega)), if_neg (c := so = 112) (fun y => z (by omega))]
theorem exA_i {t : List Nat} : ∀ (f i d : Nat) (N N' ρ : Nat → Nat) (α : Nat → Int64), (pA t f (i, N)).1 = true → exA t f (i, N) d ρ α = exA t f (i, N') d ρ α := by
  intro f
  induction f with
  | zero => intro i d N N' ρ α h; cases h
  | succ f ih =>
    intro i d N N' ρ α h
    obtain ⟨c1, c2, c3, c4⟩ := cmd_i (t := t) (i := i) (N := N) (N' := N')
    have hp : (if (cmd t (i, N)).2.1 = true then (if isC t (cmd t (i, N)).2.2.1 59 then pA t f ((cmd t (i, N)).2.2.1 + 1, (cmd t (i, N)).2.2.2) else (decide ((cmd t (i, N)).2.2.1 = t.length), (cmd t (i, N)).2.2)) else (false, (cmd t (i, N)).2.2)).1 = true := h
    have hok : (cmd t (i, N)).2.1 = true := Decidable.byContradiction fun z => by
      rw [if_neg z] at hp
      cases hp
    rw [if_pos hok] at hp
    obtain ⟨n0, n1⟩ := c4 hok
    have un : ∀ M, exA t (f + 1) (i, M) d ρ α = if notN ρ (cmd t (i, M)).1 (cmd t (i, M)).2.2.2 ≠ 0 then (notN ρ (cmd t (i, M)).1 (cmd t (i, M)).2.2.2, d, ρ, α) else if isC t (cmd t (i, M)).2.2.1 59 then exA t f ((cmd t (i, M)).2.2.1 + 1, (cmd t (i, M)).2.2.2) (d + 1) (dosR ρ (cmd t (i, M)).1 (cmd t (i, M)).2.2.2) (dosA ρ α (cmd t (i, M)).1 (cmd t (i, M)).2.2.2) else (0, d + 1, dosR ρ (cmd t (i, M)).1 (cmd t (i, M)).2.2.2, dosA ρ α (cmd t (i, M)).1 (cmd t (i, M)).2.2.2) := fun M => rfl
    rw [un N, un N', ← c1, ← c3, ← notN_i n0 n1, ← dosR_i n0 n1, ← dosA_i n0 n1]
    by_cases z : notN ρ (cmd t (i, N)).1 (cmd t (i, N)).2.2.2 ≠ 0
    · rw [if_pos z, if_pos z]
    · rw [if_neg z, if_neg z]
      by_cases y : isC t (cmd t (i, N)).2.2.1 59
      · rw [if_pos y, if_pos y]
        rw [if_pos y] at hp
        exact ih _ _ _ _ _ _ hp
      · rw [if_neg y, if_neg y]
