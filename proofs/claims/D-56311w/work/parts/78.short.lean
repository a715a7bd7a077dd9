/-! the shortest time: by all ways, by deciding loaf for loaf, by sets -/
set_option maxRecDepth 100000
/-- what an assignment of the first n loaves brings to oven j -/
def ldA (ρ : Nat → Nat) (a : Nat → Nat) (n j : Nat) : Nat := sm (fun k => if a k = j then ρ (33 + 3 * k) else 0) n
theorem ldA_s {ρ a : Nat → Nat} {n j : Nat} : ldA ρ a (n + 1) j = ldA ρ a n j + if a n = j then ρ (33 + 3 * n) else 0 := rfl
theorem tms_ld {ρ : Nat → Nat} {way : Nat} : ∀ k, (tms ρ way k).1 = ldA ρ (fun i => way / ρ 5 ^ i % ρ 5) k ∧ (tms ρ way k).2 = way / ρ 5 ^ k := by
  intro k
  induction k with
  | zero => exact ⟨rfl, by rw [Nat.pow_zero, Nat.div_one]; rfl⟩
  | succ k ih =>
    obtain ⟨i1, i2⟩ := ih
    refine ⟨?_, ?_⟩
    · funext j
      show fup _ _ _ j = _
      rw [i1, i2, ldA_s]
      by_cases c : j = way / ρ 5 ^ k % ρ 5
      · subst c
        rw [fup_s, if_pos rfl]
      · rw [fup_n c, if_neg (fun z => c z.symm), Nat.add_zero]
    · show (tms ρ way k).2 / ρ 5 = _
      rw [i2, Nat.div_div_eq_div_mul, Nat.pow_succ]
/-- an assignment as a way -/
def wayA (o : Nat) (a : Nat → Nat) : Nat → Nat
  | 0 => 0
  | n + 1 => wayA o a n + a n * o ^ n
theorem wayA_lt {o : Nat} {a : Nat → Nat} (ha : ∀ k, a k < o) : ∀ n, wayA o a n < o ^ n := by
  intro n
  induction n with
  | zero => exact Nat.one_pos
  | succ n ih =>
    show wayA o a n + a n * o ^ n < o ^ n * o
    have h1 : (a n + 1) * o ^ n ≤ o * o ^ n := Nat.mul_le_mul_right _ (ha n)
    rw [Nat.add_mul, Nat.one_mul] at h1
    rw [Nat.mul_comm (o ^ n)]
    omega
theorem wayA_dig {o : Nat} {a : Nat → Nat} (ha : ∀ k, a k < o) : ∀ n k, k < n → wayA o a n / o ^ k % o = a k := by
  intro n
  induction n with
  | zero => intro k hk; omega
  | succ n ih =>
    intro k hk
    have o0 : 0 < o := Nat.lt_of_le_of_lt (Nat.zero_le _) (ha 0)
    show (wayA o a n + a n * o ^ n) / o ^ k % o = a k
    by_cases c : k = n
    · subst c
      rw [Nat.add_mul_div_right _ _ (Nat.pow_pos o0), Nat.div_eq_of_lt (wayA_lt ha k), Nat.zero_add, Nat.mod_eq_of_lt (ha k)]
    · have e : a n * o ^ n = a n * o ^ (n - k - 1) * o * o ^ k := by
        rw [Nat.mul_assoc, Nat.mul_assoc, ← Nat.pow_succ', ← Nat.pow_add]
        congr 2
        omega
      rw [e, Nat.add_mul_div_right _ _ (Nat.pow_pos o0), Nat.add_mul_mod_self_right]
      exact ih k (by omega)
/-- the least of what the assignments to o ovens bring -/
def isH (ρ : Nat → Nat) (v : Nat) : Prop := (∃ a : Nat → Nat, (∀ k, a k < ρ 5) ∧ v = lg3 (ldA ρ a (ρ 2))) ∧ ∀ a : Nat → Nat, (∀ k, a k < ρ 5) → v ≤ lg3 (ldA ρ a (ρ 2))
theorem isH_sht {ρ : Nat → Nat} (h5 : 1 ≤ ρ 5) : isH ρ (sht ρ) := by
  have hp : 0 < ρ 5 ^ ρ 2 := Nat.pow_pos h5
  refine ⟨?_, fun a ha => ?_⟩
  · obtain ⟨j, h1, h2⟩ := mnF_ex (f := tmO ρ) (k := ρ 5 ^ ρ 2 - 1)
    refine ⟨fun i => j / ρ 5 ^ i % ρ 5, fun k => Nat.mod_lt _ h5, ?_⟩
    show mnF (tmO ρ) _ = _
    rw [h2]
    unfold tmO
    rw [(tms_ld (ρ 2)).1]
  · have h1 := wayA_lt ha (ρ 2)
    have h2 := mnF_le (f := tmO ρ) (j := wayA (ρ 5) a (ρ 2)) (k := ρ 5 ^ ρ 2 - 1) (by omega)
    have h3 : tmO ρ (wayA (ρ 5) a (ρ 2)) = lg3 (ldA ρ a (ρ 2)) := by
      unfold tmO
      rw [(tms_ld (ρ 2)).1]
      congr 1
      funext j
      unfold ldA
      exact sm_ext fun k hk => by simp only [wayA_dig ha _ _ hk]
    rw [h3] at h2
    exact h2
theorem isH_one {ρ : Nat → Nat} {v v' : Nat} (p : isH ρ v) (q : isH ρ v') : v = v' := by
  obtain ⟨⟨a, a1, a2⟩, p2⟩ := p
  obtain ⟨⟨c, c1, c2⟩, q2⟩ := q
  have := p2 c c1
  have := q2 a a1
  omega
theorem lg3_mono {f g : Nat → Nat} (h : ∀ j, f j ≤ g j) : lg3 f ≤ lg3 g := by
  have := h 0
  have := h 1
  have := h 2
  unfold lg3
  omega
/-! deciding loaf for loaf -/
/-- the loaves from k on (g of them), put upon the times T -/
def ldB (ρ : Nat → Nat) (a T : Nat → Nat) (k g j : Nat) : Nat := T j + sm (fun i => if a (k + i) = j then ρ (33 + 3 * (k + i)) else 0) g
/-- v is the least that can come of T with the loaves from k on -/
def isO (ρ : Nat → Nat) (T : Nat → Nat) (k g v : Nat) : Prop := (∃ a : Nat → Nat, (∀ i, a i < ρ 5) ∧ v = lg3 (ldB ρ a T k g)) ∧ ∀ a : Nat → Nat, (∀ i, a i < ρ 5) → v ≤ lg3 (ldB ρ a T k g)
theorem ldB_step {ρ a T : Nat → Nat} {k g j : Nat} : ldB ρ a T k (g + 1) j = ldB ρ a (fup T (a k) (T (a k) + ρ (33 + 3 * k))) (k + 1) g j := by
  have e : ∀ g, sm (fun i => if a (k + i) = j then ρ (33 + 3 * (k + i)) else 0) (g + 1) = (if a k = j then ρ (33 + 3 * k) else 0) + sm (fun i => if a (k + 1 + i) = j then ρ (33 + 3 * (k + 1 + i)) else 0) g := by
    intro g
    induction g with
    | zero => show 0 + (if a (k + 0) = j then ρ (33 + 3 * (k + 0)) else 0) = _ + 0; rw [Nat.add_zero, Nat.zero_add, Nat.add_zero]
    | succ g ih =>
      show sm _ (g + 1) + _ = _ + (sm _ g + _)
      rw [ih]
      dsimp only
      rw [show k + (g + 1) = k + 1 + g by omega]
      omega
  unfold ldB
  rw [e]
  by_cases c : a k = j
  · subst c
    rw [if_pos rfl, fup_s]
    omega
  · rw [if_neg c, fup_n (fun z => c z.symm), Nat.zero_add]
theorem isO_0 {ρ T : Nat → Nat} {k : Nat} (h5 : 1 ≤ ρ 5) : isO ρ T k 0 (lg3 T) := ⟨⟨fun _ => 0, fun _ => h5, rfl⟩, fun _ _ => Nat.le_refl _⟩
theorem isO_le {ρ T : Nat → Nat} {k g v : Nat} (h : isO ρ T k g v) : lg3 T ≤ v := by
  obtain ⟨⟨a, a1, a2⟩, -⟩ := h
  rw [a2]
  exact lg3_mono fun j => Nat.le_add_right _ _
/-- the least over the ovens from 0 on -/
theorem isO_s {ρ T : Nat → Nat} {k g : Nat} {V : Nat → Nat} (h5 : 1 ≤ ρ 5) (h : ∀ j, j < ρ 5 → isO ρ (fup T j (T j + ρ (33 + 3 * k))) (k + 1) g (V j)) {v : Nat} (h1 : ∀ j, j < ρ 5 → v ≤ V j) (h2 : ∃ j, j < ρ 5 ∧ v = V j) : isO ρ T k (g + 1) v := by
  refine ⟨?_, fun a ha => ?_⟩
  · obtain ⟨j, j1, j2⟩ := h2
    obtain ⟨⟨a, a1, a2⟩, -⟩ := h j j1
    refine ⟨fup a k j, fun i => ?_, ?_⟩
    · by_cases c : i = k
      · subst c; rw [fup_s]; exact j1
      · rw [fup_n c]; exact a1 i
    · rw [j2, a2]
      congr 1
      funext q
      rw [ldB_step, fup_s]
      unfold ldB
      congr 1
      exact sm_ext fun i _ => by rw [fup_n (by omega)]
  · have e : ldB ρ a T k (g + 1) = ldB ρ a (fup T (a k) (T (a k) + ρ (33 + 3 * k))) (k + 1) g := by funext j; exact ldB_step
    rw [e]
    exact Nat.le_trans (h1 _ (ha k)) ((h _ (ha k)).2 a ha)
theorem isO_H {ρ : Nat → Nat} {v : Nat} (h : isO ρ (fun _ => 0) 0 (ρ 2) v) : isH ρ v := by
  have e : ∀ a, ldB ρ a (fun _ => 0) 0 (ρ 2) = ldA ρ a (ρ 2) := fun a => by
    funext j
    unfold ldB ldA
    rw [Nat.zero_add]
    exact sm_ext fun i _ => by rw [Nat.zero_add]
  unfold isO at h
  simp only [e] at h
  exact h
theorem isO_ex {ρ : Nat → Nat} (h5 : 1 ≤ ρ 5) : ∀ (g k : Nat) (T : Nat → Nat), ∃ v, isO ρ T k g v := by
  intro g
  induction g with
  | zero => intro k T; exact ⟨_, isO_0 h5⟩
  | succ g ih =>
    intro k T
    obtain ⟨V, hV⟩ : ∃ V : Nat → Nat, ∀ j, isO ρ (fup T j (T j + ρ (33 + 3 * k))) (k + 1) g (V j) := ⟨fun j => Classical.choose (ih (k + 1) (fup T j (T j + ρ (33 + 3 * k)))), fun j => Classical.choose_spec (ih (k + 1) _)⟩
    have hm : ∀ m, 1 ≤ m → ∃ v, (∀ j, j < m → v ≤ V j) ∧ ∃ j, j < m ∧ v = V j := by
      intro m
      induction m with
      | zero => intro h; omega
      | succ m ihm =>
        intro _
        by_cases m0 : m = 0
        · subst m0
          exact ⟨V 0, fun j hj => by rw [show j = 0 by omega]; exact Nat.le_refl _, 0, Nat.one_pos, rfl⟩
        · obtain ⟨v, v1, j, j1, j2⟩ := ihm (by omega)
          by_cases c : V m < v
          · refine ⟨V m, fun i hi => ?_, m, Nat.lt_succ_self _, rfl⟩
            by_cases im : i = m
            · rw [im]; exact Nat.le_refl _
            · have := v1 i (by omega); omega
          · refine ⟨v, fun i hi => ?_, j, by omega, j2⟩
            by_cases im : i = m
            · rw [im]; omega
            · exact v1 i (by omega)
    obtain ⟨v, v1, v2⟩ := hm (ρ 5) h5
    exact ⟨v, isO_s h5 (fun j _ => hV j) v1 v2⟩
/-! sets of loaves -/
/-- the minutes of the loaves of a set that an assignment gives to oven j -/
def ldS (ρ : Nat → Nat) (a : Nat → Nat) (s n j : Nat) : Nat := sm (fun k => if s.testBit k = true ∧ a k = j then ρ (33 + 3 * k) else 0) n
/-- all the minutes of a set -/
def miS (ρ : Nat → Nat) (s n : Nat) : Nat := sm (fun k => if s.testBit k = true then ρ (33 + 3 * k) else 0) n
/-- v is the least for the set s with m ovens -/
def isS (ρ : Nat → Nat) (n m s v : Nat) : Prop := (∃ a : Nat → Nat, (∀ k, a k < m) ∧ v = lg3 (ldS ρ a s n)) ∧ ∀ a : Nat → Nat, (∀ k, a k < m) → v ≤ lg3 (ldS ρ a s n)
theorem sm_0 {f : Nat → Nat} {n : Nat} (h : ∀ k, k < n → f k = 0) : sm f n = 0 := by
  induction n with
  | zero => rfl
  | succ n ih => show sm f n + f n = 0; rw [ih fun k hk => h k (by omega), h n (by omega)]
theorem ldS_out {ρ a : Nat → Nat} {s n j : Nat} (h : ∀ k, k < n → a k ≠ j) : ldS ρ a s n j = 0 := sm_0 fun k hk => if_neg fun z => h k hk z.2
theorem isS_1 {ρ : Nat → Nat} {n s : Nat} : isS ρ n 1 s (miS ρ s n) := by
  have e : ∀ a : Nat → Nat, (∀ k, a k < 1) → lg3 (ldS ρ a s n) = miS ρ s n := fun a ha => by
    have e0 : ldS ρ a s n 0 = miS ρ s n := by
      unfold ldS miS
      exact sm_ext fun k _ => by
        have : a k = 0 := by have := ha k; omega
        simp [this]
    unfold lg3
    rw [e0, ldS_out (j := 1) (fun k _ => by have := ha k; omega), ldS_out (j := 2) (fun k _ => by have := ha k; omega)]
    omega
  exact ⟨⟨fun _ => 0, fun _ => Nat.one_pos, (e _ fun _ => Nat.one_pos).symm⟩, fun a ha => Nat.le_of_eq (e a ha).symm⟩
/-- a set that lies in another -/
abbrev inS (q s : Nat) : Prop := q &&& s = q
theorem tb_sub {q s k : Nat} (h : inS q s) (hk : q.testBit k = true) : s.testBit k = true := by
  have : (q &&& s).testBit k = true := by rw [h]; exact hk
  rw [Nat.testBit_and] at this
  simp at this
  exact this.2
theorem tb_dif {q s k : Nat} (h : inS q s) : (s ^^^ q).testBit k = (s.testBit k && !q.testBit k) := by
  rw [Nat.testBit_xor]
  have := @tb_sub q s k h
  cases hq : q.testBit k <;> cases hs : s.testBit k <;> simp_all
theorem lg3_put {g : Nat → Nat} {X m : Nat} (hm : m < 3) (h0 : g m = 0) : lg3 (fup g m X) = max (lg3 g) X := by
  have : m = 0 ∨ m = 1 ∨ m = 2 := by omega
  rcases this with rfl | rfl | rfl
  · unfold lg3
    rw [fup_s, fup_n (by decide), fup_n (by decide), h0]
    omega
  · unfold lg3
    rw [fup_s, fup_n (by decide), fup_n (by decide), h0]
    omega
  · unfold lg3
    rw [fup_s, fup_n (by decide), fup_n (by decide), h0]
    omega
theorem ldS_split {ρ a a' : Nat → Nat} {q s n m : Nat} (hq : inS q s) (h1 : ∀ k, k < n → s.testBit k = true → (q.testBit k = true ↔ a k = m)) (h2 : ∀ k, k < n → s.testBit k = true → q.testBit k = false → a' k = a k) : ldS ρ a s n = fup (ldS ρ a' (s ^^^ q) n) m (miS ρ q n) := by
  funext j
  by_cases jm : j = m
  · subst jm
    rw [fup_s]
    unfold ldS miS
    refine sm_ext fun k hk => ?_
    have c1 := h1 k hk
    have c2 := @tb_sub q s k hq
    by_cases c : q.testBit k = true
    · rw [if_pos c, if_pos ⟨c2 c, (c1 (c2 c)).mp c⟩]
    · rw [if_neg c, if_neg (fun z => c ((c1 z.1).mpr z.2))]
  · rw [fup_n jm]
    unfold ldS
    refine sm_ext fun k hk => ?_
    have c1 := h1 k hk
    have c2 := h2 k hk
    have c3 := tb_dif (k := k) hq
    by_cases cs : s.testBit k = true
    · by_cases cq : q.testBit k = true
      · rw [if_neg (fun z => jm (z.2.symm.trans ((c1 cs).mp cq))), if_neg (fun z => by have := z.1; rw [c3, cs, cq] at this; simp at this)]
      · have cq : q.testBit k = false := by simpa using cq
        rw [c2 cs cq]
        have : (s ^^^ q).testBit k = true := by rw [c3, cs, cq]; rfl
        by_cases ca : a k = j
        · rw [if_pos ⟨cs, ca⟩, if_pos ⟨this, ca⟩]
        · rw [if_neg (fun z => ca z.2), if_neg (fun z => ca z.2)]
    · rw [if_neg (fun z => cs z.1), if_neg (fun z => by have := z.1; rw [c3] at this; simp at this; exact cs this.1)]
theorem dig_tb {a : Nat → Nat} (ha : ∀ k, a k < 2) {n k : Nat} : (wayA 2 a n).testBit k = true ↔ k < n ∧ a k = 1 := by
  by_cases hk : k < n
  · have := wayA_dig ha n k hk
    rw [Nat.testBit_eq_decide_div_mod_eq, this]
    simp [hk]
  · rw [Nat.testBit_lt_two_pow (Nat.lt_of_lt_of_le (wayA_lt ha n) (Nat.pow_le_pow_right (by decide) (by omega)))]
    simp [hk]
/-- one oven more -/
theorem isS_step {ρ : Nat → Nat} {n m s v : Nat} {V : Nat → Nat} (hm1 : 1 ≤ m) (hm : m < 3) (h : ∀ q, inS q s → isS ρ n m (s ^^^ q) (V (s ^^^ q))) (h1 : ∀ q, inS q s → v ≤ max (miS ρ q n) (V (s ^^^ q))) (h2 : ∃ q, inS q s ∧ v = max (miS ρ q n) (V (s ^^^ q))) : isS ρ n (m + 1) s v := by
  refine ⟨?_, fun a ha => ?_⟩
  · obtain ⟨q, q1, q2⟩ := h2
    obtain ⟨⟨a', a1, a2⟩, -⟩ := h q q1
    refine ⟨fun k => if q.testBit k = true then m else a' k, fun k => ?_, ?_⟩
    · dsimp only
      have := a1 k
      split <;> omega
    · rw [ldS_split (a' := a') q1 (fun k hk hs => ?_) (fun k hk hs hq => ?_), lg3_put hm (ldS_out fun k _ => by have := a1 k; omega), ← a2, q2, Nat.max_comm]
      · constructor
        · intro z; rw [if_pos z]
        · intro z
          by_cases c : q.testBit k = true
          · exact c
          · rw [if_neg c] at z
            have := a1 k
            omega
      · rw [if_neg (by rw [hq]; decide)]
  · have hd : ∀ k, (fun k => if s.testBit k = true ∧ a k = m then 1 else 0) k < 2 := fun k => by dsimp only; split <;> omega
    have hqb : ∀ k, (wayA 2 (fun k => if s.testBit k = true ∧ a k = m then 1 else 0) n).testBit k = true ↔ k < n ∧ s.testBit k = true ∧ a k = m := fun k => by
      rw [dig_tb hd]
      by_cases c : s.testBit k = true ∧ a k = m
      · rw [if_pos c]; simp [c]
      · rw [if_neg c]; simp; intro _ z1 z2; exact c ⟨z1, z2⟩
    generalize wayA 2 (fun k => if s.testBit k = true ∧ a k = m then 1 else 0) n = q at hqb
    have hq : inS q s := by
      apply Nat.eq_of_testBit_eq
      intro i
      rw [Nat.testBit_and]
      by_cases c : q.testBit i = true
      · rw [c, ((hqb i).mp c).2.1]; rfl
      · have c : q.testBit i = false := by simpa using c
        rw [c]; rfl
    have hl := ldS_split (ρ := ρ) (a := a) (a' := fun k => if a k = m then 0 else a k) (n := n) (m := m) hq (fun k hk hs => by rw [hqb k]; exact ⟨fun z => z.2.2, fun z => ⟨hk, hs, z⟩⟩) (fun k hk hs hz => by
      rw [if_neg (fun z => by have := (hqb k).mpr ⟨hk, hs, z⟩; rw [hz] at this; cases this)])
    have ha' : ∀ k, (fun k => if a k = m then 0 else a k) k < m := fun k => by
      have := ha k
      by_cases c : a k = m
      · show (if a k = m then 0 else a k) < m
        rw [if_pos c]; exact hm1
      · show (if a k = m then 0 else a k) < m
        rw [if_neg c]; omega
    rw [hl, lg3_put hm (ldS_out fun k _ => Nat.ne_of_lt (ha' k))]
    have h3 := (h q hq).2 _ ha'
    have h4 := h1 q hq
    omega
theorem isS_H {ρ : Nat → Nat} {v : Nat} (h : isS ρ (ρ 2) (ρ 5) (2 ^ ρ 2 - 1) v) : isH ρ v := by
  have e : ∀ a, ldS ρ a (2 ^ ρ 2 - 1) (ρ 2) = ldA ρ a (ρ 2) := fun a => by
    funext j
    unfold ldS ldA
    refine sm_ext fun k hk => ?_
    have : (2 ^ ρ 2 - 1).testBit k = true := by rw [Nat.testBit_two_pow_sub_one]; simpa using hk
    simp [this]
  unfold isS at h
  simp only [e] at h
  exact h
/-- the parts of a set, from above: behind p comes (p - 1) &&& s -/
theorem sub_next : ∀ (p s q : Nat), inS p s → q < p → inS q s → q ≤ (p - 1) &&& s := by
  intro p
  induction p using Nat.strongRecOn with
  | ind p ih =>
    intro s q hp hq hs
    have e1 : (p / 2) &&& (s / 2) = p / 2 := by rw [← Nat.and_div_two, hp]
    have e2 : (q / 2) &&& (s / 2) = q / 2 := by rw [← Nat.and_div_two, hs]
    have m1 : p % 2 = 1 → s % 2 = 1 := fun z => by
      have : (p &&& s) % 2 = 1 := by rw [hp]; exact z
      exact (Nat.and_mod_two_eq_one.mp this).2
    have m2 : q % 2 = 1 → s % 2 = 1 := fun z => by
      have : (q &&& s) % 2 = 1 := by rw [hs]; exact z
      exact (Nat.and_mod_two_eq_one.mp this).2
    have d : ((p - 1) &&& s) / 2 = (p - 1) / 2 &&& s / 2 := Nat.and_div_two
    have dm := Nat.div_add_mod ((p - 1) &&& s) 2
    rcases Nat.mod_two_eq_zero_or_one p with c | c
    · have h1 := ih (p / 2) (by omega) (s / 2) (q / 2) e1 (by omega) e2
      rw [show p / 2 - 1 = (p - 1) / 2 by omega, ← d] at h1
      by_cases qz : q % 2 = 1
      · have : ((p - 1) &&& s) % 2 = 1 := Nat.and_mod_two_eq_one.mpr ⟨by omega, m2 qz⟩
        omega
      · omega
    · rw [show (p - 1) / 2 = p / 2 by omega, e1] at d
      omega
