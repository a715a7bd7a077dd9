/-! scripts: all of them -/
set_option maxRecDepth 100000
theorem runT_ge {t : List Nat} : ∀ (r : List Nat) (i : Nat) (N : Nat → Nat), i ≤ t.length → i ≤ (runT t r (i, N)).2.1 := by
  intro r
  induction r with
  | nil => intro i N _; exact Nat.le_refl _
  | cons c r ih =>
    intro i N hi
    unfold runT
    dsimp only
    by_cases h1 : c < 1000
    · rw [if_pos h1]
      by_cases z : isC t i c
      · rw [if_pos z]; exact Nat.le_trans (Nat.le_succ _) (ih _ _ z.1)
      · rw [if_neg z]; exact Nat.le_refl _
    · rw [if_neg h1]
      by_cases h2 : c < 2000
      · rw [if_pos h2]
        by_cases z : isD t i
        · rw [if_pos z]; exact Nat.le_trans (Nat.le_succ _) (ih _ _ z.1)
        · rw [if_neg z]; exact Nat.le_refl _
      · rw [if_neg h2]
        by_cases h3 : c < 3000
        · rw [if_pos h3]
          by_cases z : isD t i
          · rw [if_pos z]
            have q := nuR_le (t := t) (i := i + 1) (v := t.getD i 0 - 48) (j := 3) z.1
            exact Nat.le_trans (by omega) (ih _ _ q.2)
          · rw [if_neg z]; exact Nat.le_refl _
        · rw [if_neg h3]
          by_cases z : isR t i
          · rw [if_pos z]; exact Nat.le_trans (Nat.le_succ _) (ih _ _ z.1)
          · rw [if_neg z]; exact Nat.le_refl _
theorem cmdB_ge {t : List Nat} {i : Nat} {N : Nat → Nat} (h : i ≤ t.length) : i ≤ (cmdB t (i, N)).2.2.1 := by
  unfold cmdB
  by_cases z : isC t i 111
  · rw [if_pos z]; exact Nat.le_trans (Nat.le_succ _) (runT_ge _ _ _ z.1)
  · rw [if_neg z]; exact runT_ge _ _ _ h
theorem cmdS_ge {t : List Nat} {i : Nat} {N : Nat → Nat} (h : i ≤ t.length) : i ≤ (cmdS t (i, N)).2.2.1 := by
  unfold cmdS
  by_cases z : isC t i 101
  · rw [if_pos z]; exact Nat.le_trans (Nat.le_succ _) (runT_ge _ _ _ z.1)
  · rw [if_neg z]; exact runT_ge _ _ _ h
theorem run_r {t : List Nat} {i : Nat} {N : Nat → Nat} (h : (runT t [111, 117, 110, 100, 32, 3000] (i, N)).1 = true) : rul ((runT t [111, 117, 110, 100, 32, 3000] (i, N)).2.2 0) := by
  by_cases h1 : isC t i 111
  · rw [runT_cy (by decide) h1] at h ⊢
    by_cases h2 : isC t (i + 1) 117
    · rw [runT_cy (by decide) h2] at h ⊢
      by_cases h3 : isC t (i + 1 + 1) 110
      · rw [runT_cy (by decide) h3] at h ⊢
        by_cases h4 : isC t (i + 1 + 1 + 1) 100
        · rw [runT_cy (by decide) h4] at h ⊢
          by_cases h5 : isC t (i + 1 + 1 + 1 + 1) 32
          · rw [runT_cy (by decide) h5] at h ⊢
            by_cases h6 : isR t (i + 1 + 1 + 1 + 1 + 1)
            · rw [runT_ry h6]
              show rul (fup N 0 _ 0)
              rw [fup_s]
              exact h6.2
            · rw [runT_rn h6] at h; cases h
          · rw [runT_cn (by decide) h5] at h; cases h
        · rw [runT_cn (by decide) h4] at h; cases h
      · rw [runT_cn (by decide) h3] at h; cases h
    · rw [runT_cn (by decide) h2] at h; cases h
  · rw [runT_cn (by decide) h1] at h; cases h
/-- the numbers that tokens set are small -/
theorem runT_b {t : List Nat} : ∀ (r : List Nat) (i : Nat) (N : Nat → Nat) (k : Nat), (runT t r (i, N)).1 = true → (1000 + k ∈ r ∨ 2000 + k ∈ r ∨ (k = 0 ∧ 3000 ∈ r) ∨ N k ≤ 9999) → k < 2 → (∀ c, c ∈ r → c < 1000 ∨ c = 1000 ∨ c = 1001 ∨ c = 2000 ∨ c = 2001 ∨ c = 3000) → (runT t r (i, N)).2.2 k ≤ 9999 := by
  intro r
  induction r with
  | nil =>
    intro i N k _ hk _ _
    rcases hk with z | z | ⟨_, z⟩ | z
    · cases z
    · cases z
    · cases z
    · exact z
  | cons c r ih =>
    intro i N k h hk h2 hc
    have hr : ∀ c, c ∈ r → c < 1000 ∨ c = 1000 ∨ c = 1001 ∨ c = 2000 ∨ c = 2001 ∨ c = 3000 := fun c z => hc c (List.mem_cons_of_mem _ z)
    have hc0 := hc c List.mem_cons_self
    have dec : ∀ x, x ∈ c :: r → x = c ∨ x ∈ r := fun x z => List.mem_cons.mp z
    have step : ∀ (N' : Nat → Nat), (N' k ≤ 9999 ∨ (N' k = N k ∧ c ≠ 1000 + k ∧ c ≠ 2000 + k ∧ (k = 0 → c ≠ 3000))) → (1000 + k ∈ r ∨ 2000 + k ∈ r ∨ (k = 0 ∧ 3000 ∈ r) ∨ N' k ≤ 9999) := by
      intro N' hN
      rcases hN with z | ⟨z, z1, z2, z3⟩
      · exact Or.inr (Or.inr (Or.inr z))
      · rcases hk with y | y | ⟨y0, y⟩ | y
        · exact Or.inl ((dec _ y).resolve_left fun e => z1 e.symm)
        · exact Or.inr (Or.inl ((dec _ y).resolve_left fun e => z2 e.symm))
        · exact Or.inr (Or.inr (Or.inl ⟨y0, (dec _ y).resolve_left fun e => z3 y0 e.symm⟩))
        · exact Or.inr (Or.inr (Or.inr (by rw [z]; exact y)))
    by_cases h1 : c < 1000
    · by_cases z : isC t i c
      · rw [runT_cy h1 z] at h ⊢
        exact ih _ _ k h (step N (Or.inr ⟨rfl, by omega, by omega, by omega⟩)) h2 hr
      · rw [runT_cn h1 z] at h; cases h
    · rcases hc0 with e | e | e | e | e | e
      · exact absurd e h1
      · subst e
        by_cases z : isD t i
        · rw [show (1000 : Nat) = 1000 + 0 from rfl, runT_dy (k := 0) (by decide) z] at h ⊢
          refine ih _ _ k h (step _ ?_) h2 hr
          by_cases y : k = 0
          · subst y; exact Or.inl (by rw [fup_s]; have := z.2; omega)
          · exact Or.inr ⟨fup_n y, by omega, by omega, by omega⟩
        · rw [show (1000 : Nat) = 1000 + 0 from rfl, runT_dn (k := 0) (by decide) z] at h; cases h
      · subst e
        by_cases z : isD t i
        · rw [show (1001 : Nat) = 1000 + 1 from rfl, runT_dy (k := 1) (by decide) z] at h ⊢
          refine ih _ _ k h (step _ ?_) h2 hr
          by_cases y : k = 1
          · subst y; exact Or.inl (by rw [fup_s]; have := z.2; omega)
          · exact Or.inr ⟨fup_n y, by omega, by omega, by omega⟩
        · rw [show (1001 : Nat) = 1000 + 1 from rfl, runT_dn (k := 1) (by decide) z] at h; cases h
      · subst e
        by_cases z : isD t i
        · have nb := nuR_b (t := t) (j := 3) (i := i + 1) (v := t.getD i 0 - 48) (b := 10) (by have := z.2; omega)
          rw [show (2000 : Nat) = 2000 + 0 from rfl, runT_ny (k := 0) (by decide) z] at h ⊢
          refine ih _ _ k h (step _ ?_) h2 hr
          by_cases y : k = 0
          · subst y; exact Or.inl (by rw [fup_s]; omega)
          · exact Or.inr ⟨fup_n y, by omega, by omega, by omega⟩
        · rw [show (2000 : Nat) = 2000 + 0 from rfl, runT_nn (k := 0) (by decide) z] at h; cases h
      · subst e
        by_cases z : isD t i
        · have nb := nuR_b (t := t) (j := 3) (i := i + 1) (v := t.getD i 0 - 48) (b := 10) (by have := z.2; omega)
          rw [show (2001 : Nat) = 2000 + 1 from rfl, runT_ny (k := 1) (by decide) z] at h ⊢
          refine ih _ _ k h (step _ ?_) h2 hr
          by_cases y : k = 1
          · subst y; exact Or.inl (by rw [fup_s]; omega)
          · exact Or.inr ⟨fup_n y, by omega, by omega, by omega⟩
        · rw [show (2001 : Nat) = 2000 + 1 from rfl, runT_nn (k := 1) (by decide) z] at h; cases h
      · subst e
        by_cases z : isR t i
        · rw [runT_ry z] at h ⊢
          refine ih _ _ k h (step _ ?_) h2 hr
          by_cases y : k = 0
          · subst y
            have zr := z.2
            exact Or.inl (by rw [fup_s]; omega)
          · exact Or.inr ⟨fup_n y, by omega, by omega, fun e => absurd e y⟩
        · rw [runT_rn z] at h; cases h
/-- what a whole command is: its sort, where it ends, a rule's sign -/
theorem cmd_is {t : List Nat} {i : Nat} {N : Nat → Nat} (hi : i ≤ t.length) : srt (cmd t (i, N)).1 ∧ i ≤ (cmd t (i, N)).2.2.1 ∧ ((cmd t (i, N)).1 = 114 → (cmd t (i, N)).2.1 = true → rul ((cmd t (i, N)).2.2.2 0)) := by
  unfold cmd
  by_cases h1 : isC t i 100
  · rw [if_pos h1]; exact ⟨Or.inl rfl, Nat.le_trans (Nat.le_succ _) (runT_ge _ _ _ h1.1), fun z => absurd (show (100 : Nat) = 114 from z) (by decide)⟩
  · rw [if_neg h1]
    by_cases h2 : isC t i 109
    · rw [if_pos h2]; exact ⟨by show srt 109; omega, Nat.le_trans (Nat.le_succ _) (runT_ge _ _ _ h2.1), fun z => absurd (show (109 : Nat) = 114 from z) (by decide)⟩
    · rw [if_neg h2]
      by_cases h3 : isC t i 98
      · rw [if_pos h3]
        refine ⟨?_, Nat.le_trans (Nat.le_succ _) (cmdB_ge h3.1), fun z => ?_⟩
        · unfold cmdB; split <;> (dsimp only; omega)
        · unfold cmdB at z; split at z
          · exact absurd (show (98 : Nat) = 114 from z) (by decide)
          · exact absurd (show (107 : Nat) = 114 from z) (by decide)
      · rw [if_neg h3]
        by_cases h4 : isC t i 108
        · rw [if_pos h4]; exact ⟨by show srt 108; omega, Nat.le_trans (Nat.le_succ _) (runT_ge _ _ _ h4.1), fun z => absurd (show (108 : Nat) = 114 from z) (by decide)⟩
        · rw [if_neg h4]
          by_cases h5 : isC t i 115
          · rw [if_pos h5]
            refine ⟨?_, Nat.le_trans (Nat.le_succ _) (cmdS_ge h5.1), fun z => ?_⟩
            · unfold cmdS; split <;> (dsimp only; omega)
            · unfold cmdS at z; split at z
              · exact absurd (show (115 : Nat) = 114 from z) (by decide)
              · exact absurd (show (99 : Nat) = 114 from z) (by decide)
          · rw [if_neg h5]
            by_cases h6 : isC t i 114
            · rw [if_pos h6]; exact ⟨by show srt 114; omega, Nat.le_trans (Nat.le_succ _) (runT_ge _ _ _ h6.1), fun _ z => run_r z⟩
            · rw [if_neg h6]
              by_cases h7 : isC t i 112
              · rw [if_pos h7]; exact ⟨by show srt 112; omega, Nat.le_trans (Nat.le_succ _) (runT_ge _ _ _ h7.1), fun z => absurd (show (112 : Nat) = 114 from z) (by decide)⟩
              · rw [if_neg h7]
                by_cases h8 : isC t i 101
                · rw [if_pos h8]; exact ⟨by show srt 101; omega, Nat.le_trans (Nat.le_succ _) (runT_ge _ _ _ h8.1), fun z => absurd (show (101 : Nat) = 114 from z) (by decide)⟩
                · rw [if_neg h8]; exact ⟨by show srt 111; omega, runT_ge _ _ _ hi, fun z => absurd (show (111 : Nat) = 114 from z) (by decide)⟩
theorem sB {k : Nat} {r : List Nat} {N : Nat → Nat} (h : 1000 + k ∈ r ∨ 2000 + k ∈ r ∨ (k = 0 ∧ 3000 ∈ r)) : 1000 + k ∈ r ∨ 2000 + k ∈ r ∨ (k = 0 ∧ 3000 ∈ r) ∨ N k ≤ 9999 := by
  rcases h with z | z | z
  · exact Or.inl z
  · exact Or.inr (Or.inl z)
  · exact Or.inr (Or.inr (Or.inl z))
/-- the numbers of a good command are small -/
theorem cmd_b {t : List Nat} {i : Nat} {N : Nat → Nat} (h : (cmd t (i, N)).2.1 = true) : (cmd t (i, N)).2.2.2 0 ≤ 9999 ∧ ((cmd t (i, N)).1 = 100 ∨ (cmd t (i, N)).1 = 109 ∨ (cmd t (i, N)).1 = 108 ∨ (cmd t (i, N)).1 = 112 → (cmd t (i, N)).2.2.2 1 ≤ 9999) := by
  unfold cmd at h ⊢
  by_cases h1 : isC t i 100
  · rw [if_pos h1] at h ⊢; exact ⟨runT_b _ _ _ 0 h (sB (by decide)) (by decide) (by decide), fun _ => runT_b _ _ _ 1 h (sB (by decide)) (by decide) (by decide)⟩
  · rw [if_neg h1] at h ⊢
    by_cases h2 : isC t i 109
    · rw [if_pos h2] at h ⊢; exact ⟨runT_b _ _ _ 0 h (sB (by decide)) (by decide) (by decide), fun _ => runT_b _ _ _ 1 h (sB (by decide)) (by decide) (by decide)⟩
    · rw [if_neg h2] at h ⊢
      by_cases h3 : isC t i 98
      · rw [if_pos h3] at h ⊢
        unfold cmdB at h ⊢
        dsimp only at h ⊢
        by_cases z : isC t (i + 1) 111
        · rw [if_pos z] at h ⊢; exact ⟨runT_b _ _ _ 0 h (sB (by decide)) (by decide) (by decide), fun z => absurd (show (98 : Nat) = 100 ∨ (98 : Nat) = 109 ∨ (98 : Nat) = 108 ∨ (98 : Nat) = 112 from z) (by decide)⟩
        · rw [if_neg z] at h ⊢; exact ⟨runT_b _ _ _ 0 h (sB (by decide)) (by decide) (by decide), fun z => absurd (show (107 : Nat) = 100 ∨ (107 : Nat) = 109 ∨ (107 : Nat) = 108 ∨ (107 : Nat) = 112 from z) (by decide)⟩
      · rw [if_neg h3] at h ⊢
        by_cases h4 : isC t i 108
        · rw [if_pos h4] at h ⊢; exact ⟨runT_b _ _ _ 0 h (sB (by decide)) (by decide) (by decide), fun _ => runT_b _ _ _ 1 h (sB (by decide)) (by decide) (by decide)⟩
        · rw [if_neg h4] at h ⊢
          by_cases h5 : isC t i 115
          · rw [if_pos h5] at h ⊢
            unfold cmdS at h ⊢
            dsimp only at h ⊢
            by_cases z : isC t (i + 1) 101
            · rw [if_pos z] at h ⊢; exact ⟨runT_b _ _ _ 0 h (sB (by decide)) (by decide) (by decide), fun z => absurd (show (115 : Nat) = 100 ∨ (115 : Nat) = 109 ∨ (115 : Nat) = 108 ∨ (115 : Nat) = 112 from z) (by decide)⟩
            · rw [if_neg z] at h ⊢; exact ⟨runT_b _ _ _ 0 h (sB (by decide)) (by decide) (by decide), fun z => absurd (show (99 : Nat) = 100 ∨ (99 : Nat) = 109 ∨ (99 : Nat) = 108 ∨ (99 : Nat) = 112 from z) (by decide)⟩
          · rw [if_neg h5] at h ⊢
            by_cases h6 : isC t i 114
            · rw [if_pos h6] at h ⊢; exact ⟨runT_b _ _ _ 0 h (sB (by decide)) (by decide) (by decide), fun z => absurd (show (114 : Nat) = 100 ∨ (114 : Nat) = 109 ∨ (114 : Nat) = 108 ∨ (114 : Nat) = 112 from z) (by decide)⟩
            · rw [if_neg h6] at h ⊢
              by_cases h7 : isC t i 112
              · rw [if_pos h7] at h ⊢; exact ⟨runT_b _ _ _ 0 h (sB (by decide)) (by decide) (by decide), fun _ => runT_b _ _ _ 1 h (sB (by decide)) (by decide) (by decide)⟩
              · rw [if_neg h7] at h ⊢
                by_cases h8 : isC t i 101
                · rw [if_pos h8] at h ⊢; exact ⟨runT_b _ _ _ 0 h (sB (by decide)) (by decide) (by decide), fun z => absurd (show (101 : Nat) = 100 ∨ (101 : Nat) = 109 ∨ (101 : Nat) = 108 ∨ (101 : Nat) = 112 from z) (by decide)⟩
                · rw [if_neg h8] at h ⊢; exact ⟨runT_b _ _ _ 0 h (sB (by decide)) (by decide) (by decide), fun z => absurd (show (111 : Nat) = 100 ∨ (111 : Nat) = 109 ∨ (111 : Nat) = 108 ∨ (111 : Nat) = 112 from z) (by decide)⟩
/-- all commands: whether they are good, and the place where reading ends -/
def pA (t : List Nat) : Nat → Nat × (Nat → Nat) → Bool × Nat × (Nat → Nat)
  | 0, s => (false, s)
  | f + 1, s => if (cmd t s).2.1 = true then (if isC t (cmd t s).2.2.1 59 then pA t f ((cmd t s).2.2.1 + 1, (cmd t s).2.2.2) else (decide ((cmd t s).2.2.1 = t.length), (cmd t s).2.2)) else (false, (cmd t s).2.2)
/-- all commands carried out: the failure's sign (0: none), how many were done, the row, the accounts -/
def exA (t : List Nat) : Nat → Nat × (Nat → Nat) → Nat → (Nat → Nat) → (Nat → Int64) → Nat × Nat × (Nat → Nat) × (Nat → Int64)
  | 0, _, d, ρ, α => (0, d, ρ, α)
  | f + 1, s, d, ρ, α => if notN ρ (cmd t s).1 (cmd t s).2.2.2 ≠ 0 then (notN ρ (cmd t s).1 (cmd t s).2.2.2, d, ρ, α)
    else if isC t (cmd t s).2.2.1 59 then exA t f ((cmd t s).2.2.1 + 1, (cmd t s).2.2.2) (d + 1) (dosR ρ (cmd t s).1 (cmd t s).2.2.2) (dosA ρ α (cmd t s).1 (cmd t s).2.2.2)
    else (0, d + 1, dosR ρ (cmd t s).1 (cmd t s).2.2.2, dosA ρ α (cmd t s).1 (cmd t s).2.2.2)
section
variable {K : g_K} {a n i u c f : Nat} {V V0 : Nat → Nat → Int32} {R : Nat → Nat → Nat} {A : Nat → Nat → Int64} {h : g_P} {t : List Nat} {N : Nat → Nat} {so : Int32}
theorem pS.st (ht : tS V t) (hN : ∀ j, j < 2 → V 8 j = nI (N j)) (hs : V 0 21 = so) : pS V t 0 N so (up1 V 0 (fup (V 0) 16 (nI 0))) := by
  refine ⟨⟨?_, ht.2⟩, by rw [up1_s, fup_s], Nat.zero_le _, fun j hj => by rw [up1_n (by decide)]; exact hN j hj, by rw [up1_s, fup_n (by decide)]; exact hs, vE.put (by decide), by rw [up1_s, fup_n (by decide)], by rw [up1_s, fup_n (by decide)]⟩
  rw [up1_n (by decide), up1_s, fup_n (by decide)]
  exact ht.1
theorem k_readsAll (hb : k_b K ≤ a) (m : mS a V R A h) (ht : tS V t) (hN : ∀ j, j < 2 → V 8 j = nI (N j)) : g_Met K mX3_readsAll 7 0 0 [.ref a] h n (gI fun r h' n' => (∃ V' so', r = nB ((pA t (t.length + 1) (0, N)).1 = true) ∧ mS a V' R A h' ∧ pS V t (pA t (t.length + 1) (0, N)).2.1 (pA t (t.length + 1) (0, N)).2.2 so' V') ∧ mT a h h' ∧ n' = n) gN := by
  refine g_Met.of (M := mX3_readsAll) (L := [some (.ref a), none]) (by decide +kernel) (Nat.le_of_ble_eq_true rfl) rfl ?_
  have loop : ∀ (f i1 : Nat) (N1 : Nat → Nat) (so1 : Int32) (V1 : Nat → Nat → Int32) (h1 : g_P) (x : Int32), t.length + 1 ≤ i1 + f → pA t (t.length + 1) (0, N) = pA t f (i1, N1) → mS a V1 R A h1 → pS V t i1 N1 so1 V1 → mT a h h1 → g_G K mX3_readsAll 7 0 0 (gI fun r h' n' => (∃ V' so', r = nB ((pA t (t.length + 1) (0, N)).1 = true) ∧ mS a V' R A h' ∧ pS V t (pA t (t.length + 1) (0, N)).2.1 (pA t (t.length + 1) (0, N)).2.2 so' V') ∧ mT a h h' ∧ n' = n) gN 11 [some (.ref a), some (.int x)] [] h1 n := by
    intro f
    induction f with
    | zero =>
      intro i1 N1 so1 V1 h1 x hf he m1 q1 t1
      have := q1.2.2.1
      omega
    | succ f ih =>
      intro i1 N1 so1 V1 h1 x hf he m1 q1 t1
      have hg := (cmd_is (N := N1) q1.2.2.1).2.1
      refine r_aload0 dX3_readsAll_11 ?_
      refine r_callV (M' := mX3_readsCommand) _ dX3_readsAll_12 q3920 q3922 qs111 rfl (lw_all_tbl q3923) q138 (by exact pl_X3_readsCommand) gc_X3 (by first | exact m.1 | exact m0.1 | exact m1.1 | exact m2.1 | exact m3.1 | assumption | exact g_us | (rw [g_un (by omega)]; assumption) | (rw [g_un (by omega)]; exact g_us) | (rw [g_un (by omega), g_un (by omega)]; assumption) | (rw [g_un (by omega), g_un (by omega)]; exact g_us) | (rw [g_un (by omega), g_un (by omega), g_un (by omega)]; assumption) | ((repeat (rw [g_un (by omega)])); first | exact m.1 | exact m0.1 | exact m1.1 | exact m2.1 | exact m3.1 | exact g_us | assumption)) ((k_readsCommand hb m1 q1)) (by omega) (Nat.le_of_ble_eq_true rfl) (by omega) (by omega) rfl (Nat.le_of_ble_eq_true rfl) rfl (kI fun r12 h12 n12 e12 => ?_) kN
      obtain ⟨⟨V2, so2, rfl, m2, q2, -⟩, t2, rfl⟩ := e12
      refine r_if_neB (tgt := 20) dX3_readsAll_15 (by decide) (fun c15 => ?_) (fun c15 => ?_)
      · have he2 := he.trans (if_pos c15)
        refine r_aload0 dX3_readsAll_20 ?_
        refine r_bipush (v := nI 59) dX3_readsAll_21 (by decide) ?_
        refine r_callV (M' := mX3_reads) _ dX3_readsAll_23 q3928 q3930 qs113 rfl (lw_all_tbl q3931) q138 (by exact pl_X3_reads) gc_X3 (by first | exact m.1 | exact m0.1 | exact m1.1 | exact m2.1 | exact m3.1 | assumption | exact g_us | (rw [g_un (by omega)]; assumption) | (rw [g_un (by omega)]; exact g_us) | (rw [g_un (by omega), g_un (by omega)]; assumption) | (rw [g_un (by omega), g_un (by omega)]; exact g_us) | (rw [g_un (by omega), g_un (by omega), g_un (by omega)]; assumption) | ((repeat (rw [g_un (by omega)])); first | exact m.1 | exact m0.1 | exact m1.1 | exact m2.1 | exact m3.1 | exact g_us | assumption)) ((k_reads hb m2 q2 (by decide))) (by omega) (Nat.le_of_ble_eq_true rfl) (by omega) (by omega) rfl (Nat.le_of_ble_eq_true rfl) rfl (kI fun r23 h23 n23 e23 => ?_) kN
        obtain ⟨V3, rfl, m3, q3, t3, rfl⟩ := e23
        refine r_istore1 dX3_readsAll_26 ?_
        refine r_goto (tgt := 7) dX3_readsAll_27 (by decide) ?_
        refine r_iload1 dX3_readsAll_7 ?_
        refine r_if_eqB (tgt := 30) dX3_readsAll_8 (by decide) (fun c8 => ?_) (fun c8 => ?_)
        · have he2 := he.trans ((if_pos c15).trans (if_neg c8))
          rw [if_neg c8] at q3
          refine r_aload0 dX3_readsAll_30 ?_
          refine f_X3_277_X3 dX3_readsAll_31 m3.1 ?_
          refine r_aload0 dX3_readsAll_34 ?_
          refine f_X3_274_X3 dX3_readsAll_35 m3.1 ?_
          rw [q3.2.1, q3.1.1.1]
          have l1 := q3.2.2.1
          have l2 := q3.1.1.2.1
          refine r_icmp_neN (tgt := 45) dX3_readsAll_38 (by decide) (by omega) (by omega) (fun c38 => ?_) (fun c38 => ?_)
          · refine r_iconst (v := nI 0) dX3_readsAll_45 (by decide) ?_
            exact r_ireturn dX3_readsAll_46 rfl (by first | exact nB_nar | rfl) (⟨⟨V3, so2, by rw [he2]; exact nB_f (fun z => c38 (of_decide_eq_true z)), m3, by rw [he2]; exact q3⟩, (t1.tr t2).tr t3, rfl⟩)
          · refine r_iconst (v := nI 1) dX3_readsAll_41 (by decide) ?_
            refine r_goto (tgt := 46) dX3_readsAll_42 (by decide) ?_
            exact r_ireturn dX3_readsAll_46 rfl (by first | exact nB_nar | rfl) (⟨⟨V3, so2, by rw [he2]; exact nB_t (decide_eq_true c38), m3, by rw [he2]; exact q3⟩, (t1.tr t2).tr t3, rfl⟩)
        · rw [if_pos c8] at q3
          exact ih _ _ so2 V3 _ _ (by omega) (he.trans ((if_pos c15).trans (if_pos c8))) m3 q3 ((t1.tr t2).tr t3)
      · have he2 := he.trans (if_neg c15)
        refine r_iconst (v := nI 0) dX3_readsAll_18 (by decide) ?_
        exact r_ireturn dX3_readsAll_19 rfl (by first | exact nB_nar | rfl) (⟨⟨V2, so2, by rw [he2]; exact nB_f (fun z => by cases z), m2, by rw [he2]; exact q2⟩, t1.tr t2, rfl⟩)
  refine r_aload0 dX3_readsAll_0 ?_
  refine r_iconst (v := nI 0) dX3_readsAll_1 (by decide) ?_
  refine p_X3_277_X3 dX3_readsAll_2 (by omega) (by first | exact m.1 | exact m0.1 | exact m1.1 | exact m2.1 | exact m3.1 | assumption | exact g_us | (rw [g_un (by omega)]; assumption) | (rw [g_un (by omega)]; exact g_us) | (rw [g_un (by omega), g_un (by omega)]; assumption) | (rw [g_un (by omega), g_un (by omega)]; exact g_us) | (rw [g_un (by omega), g_un (by omega), g_un (by omega)]; assumption) | ((repeat (rw [g_un (by omega)])); first | exact m.1 | exact m0.1 | exact m1.1 | exact m2.1 | exact m3.1 | exact g_us | assumption)) ?_
  have m1 := m.oo (i := fup (V 0) 16 (nI 0)) rfl
  have q1 := pS.st (so := V 0 21) ht hN rfl
  refine r_iconst (v := nI 1) dX3_readsAll_5 (by decide) ?_
  refine r_istore1 dX3_readsAll_6 ?_
  refine r_iload1 dX3_readsAll_7 ?_
  refine r_if_eqN (tgt := 30) dX3_readsAll_8 (by decide) (by omega) (fun c8 => absurd c8 (by omega)) (fun c8 => ?_)
  exact loop (t.length + 1) 0 N _ _ _ _ (by omega) rfl m1 q1 (mT.up (k := 0) (by decide))
/-- where the scripts stand: V0 the fields at the start -/
theorem pS.dn (q : pS V0 t i N so V) {x : Int32} : pS (up1 V0 0 (fup (V0 0) 22 x)) t i N so (up1 V 0 (fup (V 0) 22 x)) := by
  obtain ⟨⟨q1, q2⟩, q3, q4, q5, q6, q7, q8, q9⟩ := q
  refine ⟨⟨?_, q2⟩, by rw [up1_s, fup_n (by decide)]; exact q3, q4, fun j hj => by rw [up1_n (by decide)]; exact q5 j hj, by rw [up1_s, fup_n (by decide)]; exact q6, ⟨fun j hj => ?_, by rw [up1_n (by decide), up1_n (by decide)]; exact q7.2.1, by rw [up1_n (by decide), up1_n (by decide)]; exact q7.2.2⟩, by rw [up1_s, up1_s, fup_n (by decide), fup_n (by decide)]; exact q8, by rw [up1_s, up1_s, fup_s, fup_s]⟩
  · rw [up1_n (by decide), up1_s, fup_n (by decide)]
    exact q1
  · have z : j ≠ 22 := by
      simp only [List.mem_cons, List.not_mem_nil, or_false] at hj
      omega
    rw [up1_s, up1_s, fup_n z, fup_n z]
    exact q7.1 j hj
/-- what is left of carrying the commands out -/
def pX (a : Nat) (V0 : Nat → Nat → Int32) (R : Nat → Nat → Nat) (A : Nat → Nat → Int64) (t : List Nat) (Y : Nat × Nat × (Nat → Nat) × (Nat → Int64)) (r : Int32) (h' : g_P) : Prop :=
  ∃ V', r = nB (Y.1 = 0) ∧ mS a V' (up1 R 1 Y.2.2.1) (up1 A 1 Y.2.2.2) h' ∧ V' 0 22 = nI Y.2.1 ∧ tS V' t ∧ V' 0 0 = V0 0 0 ∧ (∀ j, j ∈ [5, 6, 7, 13, 15, 17, 18] → V' 0 j = V0 0 j) ∧ V' 6 = V0 6 ∧ V' 0 19 = (if Y.1 = 0 then V0 0 19 else nI Y.1)
theorem pX.yes {Vx : Nat → Nat → Int32} {Y : Nat × Nat × (Nat → Nat) × (Nat → Int64)} {V1 : Nat → Nat → Int32} {d : Nat} {ρ : Nat → Nat} {α : Nat → Int64} (hY : Y = (0, d, ρ, α)) (m : mS a V (up1 R 1 ρ) (up1 A 1 α) h) (q : pS Vx t i N so V) (v : vE V1 Vx) (v0 : Vx 0 0 = V1 0 0) (vd : Vx 0 22 = nI d) : pX a V1 R A t Y (nI 1) h := by
  subst hY
  obtain ⟨q1, q3, q4, q5, q6, q7, q8, q9⟩ := q
  have z := v.tr q7
  exact ⟨V, nB_t rfl, m, q9.trans vd, q1, q8.trans v0, fun j hj => z.1 j (by simp only [List.mem_cons, List.not_mem_nil, or_false] at hj ⊢; omega), z.2.1, by rw [if_pos rfl]; exact z.1 19 (by decide)⟩
theorem pX.no {Vx : Nat → Nat → Int32} {Y : Nat × Nat × (Nat → Nat) × (Nat → Int64)} {V1 : Nat → Nat → Int32} {d e : Nat} {ρ : Nat → Nat} {α : Nat → Int64} (hY : Y = (e, d, ρ, α)) (he : e ≠ 0) (m : mS a (up1 V 0 (fup (V 0) 19 (nI e))) (up1 R 1 ρ) (up1 A 1 α) h) (q : pS Vx t i N so V) (v : vE V1 Vx) (v0 : Vx 0 0 = V1 0 0) (vd : Vx 0 22 = nI d) : pX a V1 R A t Y (nI 0) h := by
  subst hY
  obtain ⟨⟨q1, q2⟩, q3, q4, q5, q6, q7, q8, q9⟩ := q
  have z := v.tr q7
  refine ⟨_, nB_f he, m, by rw [up1_s, fup_n (by decide)]; exact q9.trans vd, ⟨?_, q2⟩, by rw [up1_s, fup_n (by decide)]; exact q8.trans v0, fun j hj => ?_, by rw [up1_n (by decide)]; exact z.2.1, by rw [if_neg he, up1_s, fup_s]⟩
  · rw [up1_n (by decide), up1_s, fup_n (by decide)]
    exact q1
  · have y : j ≠ 19 := by
      simp only [List.mem_cons, List.not_mem_nil, or_false] at hj
      omega
    rw [up1_s, fup_n y]
    exact z.1 j (by simp only [List.mem_cons, List.not_mem_nil, or_false] at hj ⊢; omega)
theorem notN_b {ρ : Nat → Nat} {so : Nat} {N : Nat → Nat} : notN ρ so N ≤ 117 := by
  have k : ∀ e f s t, f ≤ 117 → s ≤ 117 → t ≤ 117 → knd e f s t ≤ 117 := by
    intro e f s t h1 h2 h3
    unfold knd
    (repeat' split) <;> omega
  unfold notN
  (repeat' split) <;> first | omega | exact k _ _ _ _ (by decide) (by decide) (by decide)
theorem k_doesAll (hb : k_b K ≤ a) (m : mS a V R A h) (w : wB u (R 1)) (hu : u + 61 ≤ 20000) (ht : tS V t) (hN : ∀ j, j < 2 → V 8 j = nI (N j)) (hp : (pA t (t.length + 1) (0, N)).1 = true) : g_Met K mX3_doesAll 9 0 0 [.ref a] h n (gI fun r h' n' => pX a V R A t (exA t (t.length + 1) (0, N) 0 (R 1) (A 1)) r h' ∧ mT a h h' ∧ n' = n) gN := by
  have hl := ht.1.2.1
  refine g_Met.of (M := mX3_doesAll) (L := [some (.ref a), none, none]) (by decide +kernel) (Nat.le_of_ble_eq_true rfl) rfl ?_
  have loop : ∀ (f i1 d u1 : Nat) (N1 ρ1 : Nat → Nat) (α1 : Nat → Int64) (so1 : Int32) (V1 Vx : Nat → Nat → Int32) (h1 : g_P) (x : Int32) (o2 : Option Value), g_c1 o2 → t.length + 1 ≤ i1 + f → u1 + f ≤ 20000 → wB u1 ρ1 → (pA t f (i1, N1)).1 = true → exA t (t.length + 1) (0, N) 0 (R 1) (A 1) = exA t f (i1, N1) d ρ1 α1 → mS a V1 (up1 R 1 ρ1) (up1 A 1 α1) h1 → pS Vx t i1 N1 so1 V1 → vE V Vx → Vx 0 0 = V 0 0 → Vx 0 22 = nI d → mT a h h1 → g_G K mX3_doesAll 9 0 0 (gI fun r h' n' => pX a V R A t (exA t (t.length + 1) (0, N) 0 (R 1) (A 1)) r h' ∧ mT a h h' ∧ n' = n) gN 16 [some (.ref a), some (.int x), o2] [] h1 n := by
    intro f
    induction f with
    | zero =>
      intro i1 d u1 N1 ρ1 α1 so1 V1 Vx h1 x o2 ho hf hu1 w1 hp1 he m1 q1 v1 v2 v3 t1
      have := q1.2.2.1
      omega
    | succ f ih =>
      intro i1 d u1 N1 ρ1 α1 so1 V1 Vx h1 x o2 ho hf hu1 w1 hp1 he m1 q1 v1 v2 v3 t1
      have hcs := cmd_is (N := N1) q1.2.2.1
      have hok : (cmd t (i1, N1)).2.1 = true := Decidable.byContradiction fun z => by
        have hp2 : (if (cmd t (i1, N1)).2.1 = true then (if isC t (cmd t (i1, N1)).2.2.1 59 then pA t f ((cmd t (i1, N1)).2.2.1 + 1, (cmd t (i1, N1)).2.2.2) else (decide ((cmd t (i1, N1)).2.2.1 = t.length), (cmd t (i1, N1)).2.2)) else (false, (cmd t (i1, N1)).2.2)).1 = true := hp1
        rw [if_neg z] at hp2
        cases hp2
      have hcb := cmd_b hok
      have nb := notN_b (ρ := ρ1) (so := (cmd t (i1, N1)).1) (N := (cmd t (i1, N1)).2.2.2)
      refine r_aload0 dX3_doesAll_16 ?_
      refine r_callV (M' := mX3_readsCommand) _ dX3_doesAll_17 q3920 q3922 qs111 rfl (lw_all_tbl q3923) q138 (by exact pl_X3_readsCommand) gc_X3 (by first | exact m.1 | exact m0.1 | exact m1.1 | exact m2.1 | exact m3.1 | assumption | exact g_us | (rw [g_un (by omega)]; assumption) | (rw [g_un (by omega)]; exact g_us) | (rw [g_un (by omega), g_un (by omega)]; assumption) | (rw [g_un (by omega), g_un (by omega)]; exact g_us) | (rw [g_un (by omega), g_un (by omega), g_un (by omega)]; assumption) | ((repeat (rw [g_un (by omega)])); first | exact m.1 | exact m0.1 | exact m1.1 | exact m2.1 | exact m3.1 | exact g_us | assumption)) ((k_readsCommand hb m1 q1)) (by omega) (Nat.le_of_ble_eq_true rfl) (by omega) (by omega) rfl (Nat.le_of_ble_eq_true rfl) rfl (kI fun r17 h17 n17 e17 => ?_) kN
      obtain ⟨⟨V2, so2, rfl, m2, q2, hso⟩, t2, rfl⟩ := e17
      have hso := hso hok
      refine r_pop dX3_doesAll_20 ?_
      refine r_aload0 dX3_doesAll_21 ?_
      refine r_callV (M' := mX3_notNow) _ dX3_doesAll_22 q3960 q3962 qs121 rfl (lw_all_tbl q3963) q138 (by exact pl_X3_notNow) gc_X3 (by first | exact m.1 | exact m0.1 | exact m1.1 | exact m2.1 | exact m3.1 | assumption | exact g_us | (rw [g_un (by omega)]; assumption) | (rw [g_un (by omega)]; exact g_us) | (rw [g_un (by omega), g_un (by omega)]; assumption) | (rw [g_un (by omega), g_un (by omega)]; exact g_us) | (rw [g_un (by omega), g_un (by omega), g_un (by omega)]; assumption) | ((repeat (rw [g_un (by omega)])); first | exact m.1 | exact m0.1 | exact m1.1 | exact m2.1 | exact m3.1 | exact g_us | assumption)) ((k_notNow m2 (by rw [up1_s]; exact w1) (q2.2.2.2.2.1.trans hso) hcs.1 q2.2.2.2.1)) (by omega) (Nat.le_of_ble_eq_true rfl) (by omega) (by omega) rfl (Nat.le_of_ble_eq_true rfl) rfl (kI fun r22 h22 n22 e22 => ?_) kN
      obtain ⟨rfl, rfl, rfl⟩ := e22
      rw [up1_s]
      refine r_istore2 dX3_doesAll_25 ?_
      refine r_iload2 dX3_doesAll_26 ?_
      refine r_if_eqN (tgt := 37) dX3_doesAll_27 (by decide) (by omega) (fun c27 => ?_) (fun c27 => ?_)
      · have w2 := wB_dos w1 (by omega) hcs.1 hcb.1 hcb.2 (fun y => hcs.2.2 y hok) c27
        refine r_aload0 dX3_doesAll_37 ?_
        refine r_callV (M' := mX3_doesNow) _ dX3_doesAll_38 q3967 q3969 qs122 rfl (lw_all_tbl q3970) q138 (by exact pl_X3_doesNow) gc_X3 (by first | exact m.1 | exact m0.1 | exact m1.1 | exact m2.1 | exact m3.1 | assumption | exact g_us | (rw [g_un (by omega)]; assumption) | (rw [g_un (by omega)]; exact g_us) | (rw [g_un (by omega), g_un (by omega)]; assumption) | (rw [g_un (by omega), g_un (by omega)]; exact g_us) | (rw [g_un (by omega), g_un (by omega), g_un (by omega)]; assumption) | ((repeat (rw [g_un (by omega)])); first | exact m.1 | exact m0.1 | exact m1.1 | exact m2.1 | exact m3.1 | exact g_us | assumption)) ((k_doesNow hb m2 (by rw [up1_s]; exact w1) (q2.2.2.2.2.1.trans hso) hcs.1 q2.2.2.2.1 (by omega) hcb.1 hcb.2 (by rw [up1_s]; exact c27))) (by omega) (Nat.le_of_ble_eq_true rfl) (by omega) (by omega) rfl (Nat.le_of_ble_eq_true rfl) rfl (kI fun r38 h38 n38 e38 => ?_) kN
        obtain ⟨m3, t3, rfl⟩ := e38
        rw [up1_s, up1_s, up1_up1, up1_up1] at m3
        refine r_pop dX3_doesAll_41 ?_
        refine r_aload0 dX3_doesAll_42 ?_
        refine r_dup dX3_doesAll_43 ?_
        refine f_X3_315_X3 dX3_doesAll_44 m3.1 ?_
        refine r_iconst (v := nI 1) dX3_doesAll_47 (by decide) ?_
        refine r_iadd dX3_doesAll_48 (show _ = nI (d + 1) by rw [q2.2.2.2.2.2.2.2, v3]; exact nI_add _ _) ?_
        refine p_X3_315_X3 dX3_doesAll_49 (by omega) m3.1 ?_
        refine m3.goI (i := fup (V2 0) 22 (nI (d + 1))) (fun h4 m4 t4 => ?_)
        have q4 := q2.dn (x := nI (d + 1))
        have vy : vE V (up1 Vx 0 (fup (Vx 0) 22 (nI (d + 1)))) := v1.tr (vE.put (by decide))
        refine r_aload0 dX3_doesAll_52 ?_
        refine r_bipush (v := nI 59) dX3_doesAll_53 (by decide) ?_
        refine r_callV (M' := mX3_reads) _ dX3_doesAll_55 q3928 q3930 qs113 rfl (lw_all_tbl q3931) q138 (by exact pl_X3_reads) gc_X3 m4.1 ((k_reads hb m4 q4 (by decide))) (by omega) (Nat.le_of_ble_eq_true rfl) (by omega) (by omega) rfl (Nat.le_of_ble_eq_true rfl) rfl (kI fun r55 h55 n55 e55 => ?_) kN
        obtain ⟨V5, rfl, m5, q5, t5, rfl⟩ := e55
        refine r_istore1 dX3_doesAll_58 ?_
        refine r_goto (tgt := 12) dX3_doesAll_59 (by decide) ?_
        refine r_iload1 dX3_doesAll_12 ?_
        refine r_if_eqB (tgt := 62) dX3_doesAll_13 (by decide) (fun c13 => ?_) (fun c13 => ?_)
        · have he2 := he.trans ((if_neg (fun z => z c27)).trans (if_neg c13))
          rw [if_neg c13] at q5
          refine r_iconst (v := nI 1) dX3_doesAll_62 (by decide) ?_
          exact r_ireturn dX3_doesAll_63 rfl (by first | exact nB_nar | rfl) (⟨pX.yes he2 m5 q5 vy (by rw [up1_s, fup_n (by decide)]; exact v2) (by rw [up1_s, fup_s]), (((t1.tr t2).tr t3).tr t4).tr t5, rfl⟩)
        · rw [if_pos c13] at q5
          exact ih _ (d + 1) (u1 + 1) _ _ _ _ V5 _ _ _ _ g_c1i (by omega) (by omega) w2 (by have hp2 : (if (cmd t (i1, N1)).2.1 = true then (if isC t (cmd t (i1, N1)).2.2.1 59 then pA t f ((cmd t (i1, N1)).2.2.1 + 1, (cmd t (i1, N1)).2.2.2) else (decide ((cmd t (i1, N1)).2.2.1 = t.length), (cmd t (i1, N1)).2.2)) else (false, (cmd t (i1, N1)).2.2)).1 = true := hp1; rw [if_pos hok, if_pos c13] at hp2; exact hp2) (he.trans ((if_neg (fun z => z c27)).trans (if_pos c13))) m5 q5 vy (by rw [up1_s, fup_n (by decide)]; exact v2) (by rw [up1_s, fup_s]) ((((t1.tr t2).tr t3).tr t4).tr t5)
      · have he2 := he.trans (if_pos c27)
        refine r_aload0 dX3_doesAll_30 ?_
        refine r_iload2 dX3_doesAll_31 ?_
        refine p_X3_321_X3 dX3_doesAll_32 (by omega) m2.1 ?_
        refine r_iconst (v := nI 0) dX3_doesAll_35 (by decide) ?_
        exact r_ireturn dX3_doesAll_36 rfl (by first | exact nB_nar | rfl) (⟨pX.no he2 c27 (m2.oo rfl) q2 v1 v2 v3, (t1.tr t2).tr (mT.up (k := 0) (by decide)), rfl⟩)
  refine r_aload0 dX3_doesAll_0 ?_
  refine r_iconst (v := nI 0) dX3_doesAll_1 (by decide) ?_
  refine p_X3_315_X3 dX3_doesAll_2 (by omega) (by first | exact m.1 | exact m0.1 | exact m1.1 | exact m2.1 | exact m3.1 | assumption | exact g_us | (rw [g_un (by omega)]; assumption) | (rw [g_un (by omega)]; exact g_us) | (rw [g_un (by omega), g_un (by omega)]; assumption) | (rw [g_un (by omega), g_un (by omega)]; exact g_us) | (rw [g_un (by omega), g_un (by omega), g_un (by omega)]; assumption) | ((repeat (rw [g_un (by omega)])); first | exact m.1 | exact m0.1 | exact m1.1 | exact m2.1 | exact m3.1 | exact g_us | assumption)) ?_
  refine m.goI (i := fup (V 0) 22 (nI 0)) (fun h1 m1 t1 => ?_)
  refine r_aload0 dX3_doesAll_5 ?_
  refine r_iconst (v := nI 0) dX3_doesAll_6 (by decide) ?_
  refine p_X3_277_X3 dX3_doesAll_7 (by omega) m1.1 ?_
  refine m1.goI (i := fup (up1 V 0 (fup (V 0) 22 (nI 0)) 0) 16 (nI 0)) (fun h2 m2 t2 => ?_)
  have tx : tS (up1 V 0 (fup (V 0) 22 (nI 0))) t := ⟨by rw [up1_n (by decide), up1_s, fup_n (by decide)]; exact ht.1, ht.2⟩
  have q1 := pS.st (N := N) (so := V 0 21) tx (fun j hj => by rw [up1_n (by decide)]; exact hN j hj) (by rw [up1_s, fup_n (by decide)])
  refine r_iconst (v := nI 1) dX3_doesAll_10 (by decide) ?_
  refine r_istore1 dX3_doesAll_11 ?_
  refine r_iload1 dX3_doesAll_12 ?_
  refine r_if_eqN (tgt := 62) dX3_doesAll_13 (by decide) (by omega) (fun c13 => absurd c13 (by omega)) (fun c13 => ?_)
  exact loop (t.length + 1) 0 0 u N (R 1) (A 1) _ _ _ _ _ _ g_c1n (by omega) (by omega) w hp rfl (m2.to rfl up1_self.symm up1_self.symm) q1 (vE.put (by decide)) (by rw [up1_s, fup_n (by decide)]) (by rw [up1_s, fup_s]) (t1.tr t2)
end
