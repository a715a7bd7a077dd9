/-! sets of loaves as numbers; places in an order -/
set_option maxRecDepth 100000
theorem nx9_xor (a b : Nat) : nI a ^^^ nI b = nI (a ^^^ b) := by
  apply Int32.toBitVec_inj.mp
  rw [Int32.toBitVec_xor]
  show BitVec.ofNat 32 a ^^^ BitVec.ofNat 32 b = BitVec.ofNat 32 (a ^^^ b)
  apply BitVec.eq_of_toNat_eq
  simp [Nat.xor_mod_two_pow]
theorem nx9_and (a b : Nat) : nI a &&& nI b = nI (a &&& b) := by
  apply Int32.toBitVec_inj.mp
  rw [Int32.toBitVec_and]
  show BitVec.ofNat 32 a &&& BitVec.ofNat 32 b = BitVec.ofNat 32 (a &&& b)
  apply BitVec.eq_of_toNat_eq
  simp [Nat.and_mod_two_pow]
theorem bt_and1 : ∀ s, s < 256 → ∀ j, j < 8 → (nI s >>> (nI j &&& 31)) &&& nI 1 = nI (s.testBit j).toNat := by decide +kernel
theorem sh_1 : ∀ j, j < 9 → nI 1 <<< (nI j &&& 31) = nI (2 ^ j) := by decide +kernel
theorem bt_not {s q : Nat} (h : inS q s) : nI s &&& (nI q ^^^ (-1)) = nI (s ^^^ q) := by
  rw [← nx9_xor]
  have e : nI q = nI q &&& nI s := by rw [nx9_and, h]
  rw [e]
  generalize nI q = x
  generalize nI s = y
  apply Int32.toBitVec_inj.mp
  apply BitVec.eq_of_getLsbD_eq
  intro i hi
  have h1 : (-1 : Int32).toBitVec.getLsbD i = true := by
    show (BitVec.allOnes 32).getLsbD i = true
    rw [BitVec.getLsbD_allOnes]
    simpa using hi
  simp only [Int32.toBitVec_and, Int32.toBitVec_xor, BitVec.getLsbD_and, BitVec.getLsbD_xor, h1]
  cases x.toBitVec.getLsbD i <;> cases y.toBitVec.getLsbD i <;> rfl
theorem inS_le {q s : Nat} (h : inS q s) : q ≤ s := by
  have := @Nat.and_le_right q s
  rw [h] at this
  exact this
theorem inS_and {p s : Nat} : inS (p &&& s) s := by
  show (p &&& s) &&& s = p &&& s
  rw [Nat.and_assoc, Nat.and_self]
theorem inS_rf {s : Nat} : inS s s := Nat.and_self s
theorem inS_0 {s : Nat} : inS 0 s := Nat.zero_and s
theorem xor_le {q s n : Nat} (hs : s < 2 ^ n) (h : inS q s) : s ^^^ q < 2 ^ n := Nat.xor_lt_two_pow hs (Nat.lt_of_le_of_lt (inS_le h) hs)
theorem miS_0 {ρ : Nat → Nat} {n : Nat} : miS ρ 0 n = 0 := sm_0 fun k _ => if_neg (by simp)
theorem miS_b {ρ : Nat → Nat} {s n : Nat} (hb : ∀ k, k < n → ρ (33 + 3 * k) ≤ 60) : miS ρ s n ≤ 60 * n := by
  have := sm_ub (f := fun k => if s.testBit k = true then ρ (33 + 3 * k) else 0) (c := 60) (n := n) fun k hk => by
    have := hb k hk
    split <;> omega
  unfold miS
  omega
theorem isS_b {ρ : Nat → Nat} {n m s v : Nat} (hb : ∀ k, k < n → ρ (33 + 3 * k) ≤ 60) (h : isS ρ n m s v) : v ≤ 60 * n := by
  obtain ⟨⟨a, ha, rfl⟩, -⟩ := h
  refine lg3_b fun j => ?_
  have := sm_ub (f := fun k => if s.testBit k = true ∧ a k = j then ρ (33 + 3 * k) else 0) (c := 60) (n := n) fun k hk => by
    have := hb k hk
    split <;> omega
  unfold ldS
  omega
theorem isS_0 {ρ : Nat → Nat} {n m : Nat} (hm : 1 ≤ m) : isS ρ n m 0 0 := by
  refine ⟨⟨fun _ => 0, fun _ => hm, ?_⟩, fun _ _ => Nat.zero_le _⟩
  have e : ∀ j, ldS ρ (fun _ => 0) 0 n j = 0 := fun j => sm_0 fun k _ => if_neg (by simp)
  unfold lg3
  rw [e, e, e]
  rfl
/-- the sets that have been tried down to p; what is best of them -/
def dnS (ρ V : Nat → Nat) (n s p v : Nat) : Prop := (∃ q, inS q s ∧ v = max (miS ρ q n) (V (s ^^^ q))) ∧ ∀ q, inS q s → p < q ∨ q = 0 → v ≤ max (miS ρ q n) (V (s ^^^ q))
theorem dnS_0 {ρ V : Nat → Nat} {n s : Nat} : dnS ρ V n s s (V s) := by
  have e : max (miS ρ 0 n) (V (s ^^^ 0)) = V s := by rw [miS_0, Nat.xor_zero, Nat.zero_max]
  refine ⟨⟨0, inS_0, e.symm⟩, fun q hq h => ?_⟩
  rcases h with h | rfl
  · exact absurd (inS_le hq) (by omega)
  · exact Nat.le_of_eq e.symm
theorem dnS_s {ρ V : Nat → Nat} {n s p v : Nat} (h : dnS ρ V n s p v) (hp : inS p s) : dnS ρ V n s ((p - 1) &&& s) (min v (max (miS ρ p n) (V (s ^^^ p)))) := by
  obtain ⟨⟨q0, h1, h2⟩, h3⟩ := h
  refine ⟨?_, fun q hq h => ?_⟩
  · rcases Nat.le_total v (max (miS ρ p n) (V (s ^^^ p))) with c | c
    · exact ⟨q0, h1, by rw [Nat.min_eq_left c, h2]⟩
    · exact ⟨p, hp, Nat.min_eq_right c⟩
  · by_cases e : q = p
    · subst e
      exact Nat.min_le_right _ _
    · refine Nat.le_trans (Nat.min_le_left _ _) (h3 q hq ?_)
      rcases h with h | h
      · rcases Nat.lt_or_ge q p with c | c
        · exact absurd (sub_next p s q hp c hq) (by omega)
        · exact Or.inl (by omega)
      · exact Or.inr h
theorem dnS_e {ρ V : Nat → Nat} {n m s v : Nat} (hm1 : 1 ≤ m) (hm : m < 3) (h : dnS ρ V n s 0 v) (hV : ∀ q, inS q s → isS ρ n m (s ^^^ q) (V (s ^^^ q))) : isS ρ n (m + 1) s v :=
  isS_step hm1 hm hV (fun q hq => h.2 q hq (by omega)) h.1
/-! places in an order -/
theorem sm_cnt {P : Nat → Prop} [DecidablePred P] : ∀ n, sm (fun b => if P b then 1 else 0) n = (List.range n).countP P := by
  intro n
  induction n with
  | zero => rfl
  | succ n ih =>
    rw [List.range_succ, List.countP_append, ← ih]
    show sm _ n + (if P n then 1 else 0) = _
    by_cases c : P n
    · simp [c]
    · simp [c]
theorem pos_cnt {R : Nat → Nat → Prop} [∀ a b, Decidable (R a b)] (ir : ∀ a b, R a b → ¬ R b a) {I : List Nat} {n : Nat} (hp : I.Perm (List.range n)) (hs : I.Pairwise R) {r : Nat} {x : Nat} (hx : I[r]? = some x) : sm (fun b => if R b x then 1 else 0) n = r := by
  rw [sm_cnt, ← hp.countP_eq]
  have hr : r < I.length := by
    rcases Nat.lt_or_ge r I.length with c | c
    · exact c
    · rw [List.getElem?_eq_none c] at hx; cases hx
  have e : I = I.take r ++ x :: I.drop (r + 1) := by
    have e1 : I.drop r = x :: I.drop (r + 1) := by
      rw [List.drop_eq_getElem_cons hr]
      rw [List.getElem?_eq_getElem hr] at hx
      rw [Option.some.inj hx]
    rw [← e1, List.take_append_drop]
  have hs2 := hs
  rw [e] at hs2
  obtain ⟨p1, p2, p3⟩ := List.pairwise_append.mp hs2
  obtain ⟨p4, p5⟩ := List.pairwise_cons.mp p2
  have c1 : (I.take r).countP (fun b => decide (R b x)) = (I.take r).length := List.countP_eq_length.mpr fun b hb => by simpa using p3 b hb x List.mem_cons_self
  have c2 : (x :: I.drop (r + 1)).countP (fun b => decide (R b x)) = 0 := List.countP_eq_zero.mpr fun b hb => by
    rcases List.mem_cons.mp hb with rfl | hb
    · simpa using fun z => ir b b z z
    · simpa using ir _ _ (p4 b hb)
  rw [e, List.countP_append, c1, c2, List.length_take]
  omega
theorem ahd_pos {ρ : Nat → Nat} {c n : Nat} (h8 : n ≤ 8) {I : List Nat} (hp : I.Perm (List.range n)) (hs : I.Pairwise fun a b => rky ρ c a < rky ρ c b) {r x : Nat} (hx : I[r]? = some x) : ahd ρ c x n = r := by
  have lt : ∀ i ∈ I, i < 8 := fun i hi => by
    have := List.mem_range.mp (hp.mem_iff.mp hi)
    omega
  have hx8 : x < 8 := lt x (List.mem_of_getElem? hx)
  rw [← pos_cnt (R := fun a b => rky ρ c a < rky ρ c b) (fun a b h => by omega) hp hs hx]
  refine sm_ext fun j hj => ?_
  have e : (rs ρ c j > rs ρ c x ∨ rs ρ c j = rs ρ c x ∧ j < x) ↔ rky ρ c j < rky ρ c x := by
    unfold rky
    omega
  by_cases q : rky ρ c j < rky ρ c x
  · rw [if_pos q, if_pos (e.mpr q)]
  · rw [if_neg q, if_neg (fun z => q (e.mp z))]
/-- the loaves by minutes -/
theorem rkL_pos {ρ : Nat → Nat} {w n : Nat} {I : List Nat} (hp : I.Perm (List.range n)) (hs : I.Pairwise fun a b => ρ (32 + 3 * b + w) < ρ (32 + 3 * a + w) ∨ ρ (32 + 3 * a + w) = ρ (32 + 3 * b + w) ∧ a < b) {r x : Nat} (hx : I[r]? = some x) : rkL ρ w x n = r :=
  pos_cnt (R := fun b a => ρ (32 + 3 * a + w) < ρ (32 + 3 * b + w) ∨ ρ (32 + 3 * b + w) = ρ (32 + 3 * a + w) ∧ b < a) (fun a b h => by omega) hp hs hx
