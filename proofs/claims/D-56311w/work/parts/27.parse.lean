/-! reading a script: what the reference's parser finds -/
set_option maxRecDepth 100000
/-- the sign k at the place i; a digit there -/
abbrev isC (t : List Nat) (i k : Nat) : Prop := i < t.length ∧ t.getD i 0 = k
abbrev isD (t : List Nat) (i : Nat) : Prop := i < t.length ∧ 48 ≤ t.getD i 0 ∧ t.getD i 0 ≤ 57
abbrev isR (t : List Nat) (i : Nat) : Prop := i < t.length ∧ rul (t.getD i 0)
def nxI (t : List Nat) (i : Nat) : Int32 := if i < t.length then nI (t.getD i 0) else -1
/-- up to j digits more behind v -/
def nuR (t : List Nat) (i v : Nat) : Nat → Nat × Nat
  | 0 => (i, v)
  | j + 1 => if isD t i then nuR t (i + 1) (10 * v + (t.getD i 0 - 48)) j else (i, v)
theorem nuR_y {t : List Nat} {i v j : Nat} (h : isD t i) : nuR t i v (j + 1) = nuR t (i + 1) (10 * v + (t.getD i 0 - 48)) j := if_pos h
theorem nuR_n {t : List Nat} {i v j : Nat} (h : ¬ isD t i) : nuR t i v (j + 1) = (i, v) := if_neg h
/-- tokens: a sign; 1000 + k: a digit for number k; 2000 + k: a number; 3000: a rule's sign for number 0 -/
def runT (t : List Nat) : List Nat → Nat × (Nat → Nat) → Bool × Nat × (Nat → Nat)
  | [], s => (true, s)
  | c :: r, s =>
    if c < 1000 then (if isC t s.1 c then runT t r (s.1 + 1, s.2) else (false, s))
    else if c < 2000 then (if isD t s.1 then runT t r (s.1 + 1, fup s.2 (c - 1000) (t.getD s.1 0 - 48)) else (false, s))
    else if c < 3000 then (if isD t s.1 then runT t r ((nuR t (s.1 + 1) (t.getD s.1 0 - 48) 3).1, fup s.2 (c - 2000) (nuR t (s.1 + 1) (t.getD s.1 0 - 48) 3).2) else (false, s))
    else (if isR t s.1 then runT t r (s.1 + 1, fup s.2 0 (t.getD s.1 0)) else (false, s))
section
variable {t r : List Nat} {c i : Nat} {N : Nat → Nat}
theorem runT_cy (hc : c < 1000) (h : isC t i c) : runT t (c :: r) (i, N) = runT t r (i + 1, N) := by
  show (if c < 1000 then _ else _) = _
  rw [if_pos hc, if_pos h]
theorem runT_cn (hc : c < 1000) (h : ¬ isC t i c) : runT t (c :: r) (i, N) = (false, i, N) := by
  show (if c < 1000 then _ else _) = _
  rw [if_pos hc, if_neg h]
theorem runT_dy {k : Nat} (hk : k < 2) (h : isD t i) : runT t ((1000 + k) :: r) (i, N) = runT t r (i + 1, fup N k (t.getD i 0 - 48)) := by
  show (if 1000 + k < 1000 then _ else if 1000 + k < 2000 then _ else _) = _
  rw [if_neg (by omega), if_pos (by omega), if_pos h, show 1000 + k - 1000 = k by omega]
theorem runT_dn {k : Nat} (hk : k < 2) (h : ¬ isD t i) : runT t ((1000 + k) :: r) (i, N) = (false, i, N) := by
  show (if 1000 + k < 1000 then _ else if 1000 + k < 2000 then _ else _) = _
  rw [if_neg (by omega), if_pos (by omega), if_neg h]
theorem runT_ny {k : Nat} (hk : k < 2) (h : isD t i) : runT t ((2000 + k) :: r) (i, N) = runT t r ((nuR t (i + 1) (t.getD i 0 - 48) 3).1, fup N k (nuR t (i + 1) (t.getD i 0 - 48) 3).2) := by
  show (if 2000 + k < 1000 then _ else if 2000 + k < 2000 then _ else if 2000 + k < 3000 then _ else _) = _
  rw [if_neg (by omega), if_neg (by omega), if_pos (by omega), if_pos h, show 2000 + k - 2000 = k by omega]
theorem runT_nn {k : Nat} (hk : k < 2) (h : ¬ isD t i) : runT t ((2000 + k) :: r) (i, N) = (false, i, N) := by
  show (if 2000 + k < 1000 then _ else if 2000 + k < 2000 then _ else if 2000 + k < 3000 then _ else _) = _
  rw [if_neg (by omega), if_neg (by omega), if_pos (by omega), if_neg h]
theorem runT_ry (h : isR t i) : runT t (3000 :: r) (i, N) = runT t r (i + 1, fup N 0 (t.getD i 0)) := by
  show (if 3000 < 1000 then _ else if 3000 < 2000 then _ else if 3000 < 3000 then _ else _) = _
  rw [if_neg (by omega), if_neg (by omega), if_neg (by omega), if_pos h]
theorem runT_rn (h : ¬ isR t i) : runT t (3000 :: r) (i, N) = (false, i, N) := by
  show (if 3000 < 1000 then _ else if 3000 < 2000 then _ else if 3000 < 3000 then _ else _) = _
  rw [if_neg (by omega), if_neg (by omega), if_neg (by omega), if_neg h]
end
theorem nuR_le {t : List Nat} {j : Nat} : ∀ {i v : Nat}, i ≤ t.length → i ≤ (nuR t i v j).1 ∧ (nuR t i v j).1 ≤ t.length := by
  induction j with
  | zero => intro i v h; exact ⟨Nat.le_refl _, h⟩
  | succ j ih =>
    intro i v h
    unfold nuR
    split
    · rename_i z
      have := ih (i := i + 1) (v := 10 * v + (t.getD i 0 - 48)) z.1
      omega
    · exact ⟨Nat.le_refl _, h⟩
theorem nuR_b {t : List Nat} {j : Nat} : ∀ {i v b : Nat}, v < b → (nuR t i v j).2 < b * 10 ^ j := by
  induction j with
  | zero => intro i v b h; show v < b * 1; omega
  | succ j ih =>
    intro i v b h
    unfold nuR
    split
    · rename_i z
      have := ih (i := i + 1) (v := 10 * v + (t.getD i 0 - 48)) (b := b * 10) (by omega)
      rw [Nat.pow_succ]
      have e : b * 10 * 10 ^ j = b * (10 ^ j * 10) := by rw [Nat.mul_assoc, Nat.mul_comm 10]
      omega
    · have : b * 1 ≤ b * 10 ^ (j + 1) := Nat.mul_le_mul_left _ (Nat.pow_pos (by decide))
      show v < _
      omega
/-- the commands behind 'b' and 's', and a whole command: its sort, whether it is good, the place behind it, its numbers -/
def cmdB (t : List Nat) (s : Nat × (Nat → Nat)) : Nat × Bool × Nat × (Nat → Nat) :=
  if isC t s.1 111 then (98, runT t [119, 108, 32, 2000] (s.1 + 1, s.2)) else (107, runT t [97, 107, 101, 32, 1000] s)
def cmdS (t : List Nat) (s : Nat × (Nat → Nat)) : Nat × Bool × Nat × (Nat → Nat) :=
  if isC t s.1 101 then (115, runT t [108, 108, 32, 1000] (s.1 + 1, s.2)) else (99, runT t [99, 97, 108, 101, 32, 1000] s)
def cmd (t : List Nat) (s : Nat × (Nat → Nat)) : Nat × Bool × Nat × (Nat → Nat) :=
  if isC t s.1 100 then (100, runT t [111, 117, 103, 104, 32, 2000, 47, 2001] (s.1 + 1, s.2))
  else if isC t s.1 109 then (109, runT t [105, 120, 32, 1000, 1001] (s.1 + 1, s.2))
  else if isC t s.1 98 then cmdB t (s.1 + 1, s.2)
  else if isC t s.1 108 then (108, runT t [111, 97, 102, 32, 2000, 32, 2001] (s.1 + 1, s.2))
  else if isC t s.1 115 then cmdS t (s.1 + 1, s.2)
  else if isC t s.1 114 then (114, runT t [111, 117, 110, 100, 32, 3000] (s.1 + 1, s.2))
  else if isC t s.1 112 then (112, runT t [111, 117, 114, 32, 1000, 1001] (s.1 + 1, s.2))
  else if isC t s.1 101 then (101, runT t [109, 112, 116, 121, 32, 1000] (s.1 + 1, s.2))
  else (111, runT t [111, 118, 101, 110, 115, 32, 1000] s)
/-- where the parser stands -/
def pS (V0 : Nat → Nat → Int32) (t : List Nat) (i : Nat) (N : Nat → Nat) (so : Int32) (V : Nat → Nat → Int32) : Prop :=
  tS V t ∧ V 0 16 = nI i ∧ i ≤ t.length ∧ (∀ j, j < 2 → V 8 j = nI (N j)) ∧ V 0 21 = so ∧ vE V0 V ∧ V 0 0 = V0 0 0 ∧ V 0 22 = V0 0 22
section
variable {K : g_K} {a n i k : Nat} {V V0 : Nat → Nat → Int32} {R : Nat → Nat → Nat} {A : Nat → Nat → Int64} {h : g_P} {t : List Nat} {N : Nat → Nat} {so : Int32}
theorem pS.at (q : pS V0 t i N so V) {j : Nat} (hj : j ≤ t.length) : pS V0 t j N so (up1 V 0 (fup (V 0) 16 (nI j))) := by
  obtain ⟨⟨q1, q2⟩, q3, q4, q5, q6, q7, q8, q9⟩ := q
  refine ⟨⟨?_, q2⟩, by rw [up1_s, fup_s], hj, fun j hj => by rw [up1_n (by decide)]; exact q5 j hj, by rw [up1_s, fup_n (by decide)]; exact q6, q7.tr (vE.put (by decide)), by rw [up1_s, fup_n (by decide)]; exact q8, by rw [up1_s, fup_n (by decide)]; exact q9⟩
  rw [up1_n (by decide), up1_s, fup_n (by decide)]
  exact q1
theorem pS.srt (q : pS V0 t i N so V) {x : Int32} : pS V0 t i N x (up1 V 0 (fup (V 0) 21 x)) := by
  obtain ⟨⟨q1, q2⟩, q3, q4, q5, q6, q7, q8, q9⟩ := q
  refine ⟨⟨?_, q2⟩, by rw [up1_s, fup_n (by decide)]; exact q3, q4, fun j hj => by rw [up1_n (by decide)]; exact q5 j hj, by rw [up1_s, fup_s], q7.tr (vE.put (by decide)), by rw [up1_s, fup_n (by decide)]; exact q8, by rw [up1_s, fup_n (by decide)]; exact q9⟩
  rw [up1_n (by decide), up1_s, fup_n (by decide)]
  exact q1
theorem pS.nu (q : pS V0 t i N so V) {x : Nat} (hk : k < 2) : pS V0 t i (fup N k x) so (up1 V 8 (fup (V 8) k (nI x))) := by
  obtain ⟨⟨q1, q2⟩, q3, q4, q5, q6, q7, q8, q9⟩ := q
  refine ⟨⟨by rw [up1_n (by decide), up1_n (by decide)]; exact q1, q2⟩, by rw [up1_n (by decide)]; exact q3, q4, fun j hj => ?_, by rw [up1_n (by decide)]; exact q6, q7.tr (vE.row (Or.inr rfl)), by rw [up1_n (by decide)]; exact q8, by rw [up1_n (by decide)]; exact q9⟩
  rw [up1_s]
  by_cases z : j = k
  · subst z
    rw [fup_s, fup_s]
  · rw [fup_n z, fup_n z]
    exact q5 j hj
theorem pS.ch (q : pS V0 t i N so V) {j : Nat} (hj : j < t.length) : V 7 j = nI (t.getD j 0) ∧ 32 ≤ t.getD j 0 ∧ t.getD j 0 ≤ 126 :=
  ⟨q.1.1.2.2.1 j hj, q.1.2 _ (by rw [List.getD_eq_getElem?_getD, List.getElem?_eq_getElem hj]; exact List.getElem_mem _)⟩
theorem mS.nn (m : mS a V R A h) : h (a + 8) = some (g_ar 0 (aI 2 (V 8))) := m.2.2.2.2.2.2.2.2
theorem k_nextChar (m : mS a V R A h) (q : pS V0 t i N so V) : g_Met K mX3_nextChar 1 0 0 [.ref a] h n (gI fun r h' n' => r = nxI t i ∧ h' = h ∧ n' = n) gN := by
  have hl := q.1.1.2.1
  have hi := q.2.2.1
  refine g_Met.of (M := mX3_nextChar) (L := [some (.ref a)]) (by decide +kernel) (Nat.le_of_ble_eq_true rfl) rfl ?_
  refine r_aload0 dX3_nextChar_0 ?_
  refine f_X3_277_X3 dX3_nextChar_1 m.1 ?_
  refine r_aload0 dX3_nextChar_4 ?_
  refine f_X3_274_X3 dX3_nextChar_5 m.1 ?_
  rw [q.2.1, q.1.1.1]
  refine r_icmp_geN (tgt := 23) dX3_nextChar_8 (by decide) (by omega) (by omega) (fun c8 => ?_) (fun c8 => ?_)
  · refine r_iconst (v := (-1)) dX3_nextChar_23 (by decide) ?_
    exact r_ireturn dX3_nextChar_24 rfl rfl (⟨by unfold nxI; rw [if_neg (by omega)], rfl, rfl⟩)
  · refine r_aload0 dX3_nextChar_11 ?_
    refine f_X3_34_X3 dX3_nextChar_12 m.1 ?_
    refine r_aload0 dX3_nextChar_15 ?_
    refine f_X3_277_X3 dX3_nextChar_16 m.1 ?_
    refine r_caload (i) dX3_nextChar_19 m.xt q.2.1 (by omega) (by rw [aI_at (by omega), (q.ch (by omega)).1]) ?_
    refine r_goto (tgt := 24) dX3_nextChar_20 (by decide) ?_
    exact r_ireturn dX3_nextChar_24 rfl rfl (⟨by unfold nxI; rw [if_pos (by omega)], rfl, rfl⟩)
theorem nx_c (q : pS V0 t i N so V) (hk : k < 65536) : nxI t i = nI k ↔ isC t i k := by
  unfold nxI
  by_cases z : i < t.length
  · rw [if_pos z]
    have := (q.ch z).2
    constructor
    · intro e
      exact ⟨z, (nI_eq (by omega) (by omega)).mp e⟩
    · intro e
      rw [e.2]
  · rw [if_neg z]
    constructor
    · intro e
      have : ¬ nI k < 0 := nI_pos (by omega)
      rw [← e] at this
      exact absurd (by decide) this
    · intro e
      exact absurd e.1 z
theorem nx_d (q : pS V0 t i N so V) : bt (nxI t i) 48 57 ↔ isD t i := by
  unfold nxI
  by_cases z : i < t.length
  · rw [if_pos z, bt_nI (by have := (q.ch z).2; omega)]
    constructor
    · intro e
      exact ⟨z, e⟩
    · intro e
      exact e.2
  · rw [if_neg z]
    constructor
    · intro e
      exact absurd e.1 (by decide)
    · intro e
      exact absurd e.1 z
theorem nx_r (q : pS V0 t i N so V) : ruI (nxI t i) ↔ isR t i := by
  unfold ruI isR rul
  rw [nx_c q (by decide), nx_c q (by decide), nx_c q (by decide), nx_c q (by decide)]
  unfold isC
  constructor
  · rintro (z | z | z | z)
    · exact ⟨z.1, Or.inl z.2⟩
    · exact ⟨z.1, Or.inr (Or.inl z.2)⟩
    · exact ⟨z.1, Or.inr (Or.inr (Or.inl z.2))⟩
    · exact ⟨z.1, Or.inr (Or.inr (Or.inr z.2))⟩
  · rintro ⟨z, y | y | y | y⟩
    · exact Or.inl ⟨z, y⟩
    · exact Or.inr (Or.inl ⟨z, y⟩)
    · exact Or.inr (Or.inr (Or.inl ⟨z, y⟩))
    · exact Or.inr (Or.inr (Or.inr ⟨z, y⟩))
theorem k_reads (hb : k_b K ≤ a) (m : mS a V R A h) (q : pS V0 t i N so V) (hk : k < 65536) : g_Met K mX3_reads 2 0 0 [.ref a, .int (nI k)] h n (gI fun r h' n' => ∃ V', r = nB (isC t i k) ∧ mS a V' R A h' ∧ pS V0 t (if isC t i k then i + 1 else i) N so V' ∧ mT a h h' ∧ n' = n) gN := by
  have hi := q.2.2.1
  refine g_Met.of (M := mX3_reads) (L := [some (.ref a), some (.int (nI k))]) (by decide +kernel) (Nat.le_of_ble_eq_true rfl) rfl ?_
  refine r_aload0 dX3_reads_0 ?_
  refine r_callV (M' := mX3_nextChar) _ dX3_reads_1 q3924 q3926 qs112 rfl (lw_all_tbl q3927) q138 (by exact pl_X3_nextChar) gc_X3 (by first | exact m.1 | exact m0.1 | exact m1.1 | exact m2.1 | exact m3.1 | exact m4.1 | exact m5.1 | assumption | exact g_us | (rw [g_un (by omega)]; assumption) | (rw [g_un (by omega)]; exact g_us) | (rw [g_un (by omega), g_un (by omega)]; assumption) | (rw [g_un (by omega), g_un (by omega)]; exact g_us) | (rw [g_un (by omega), g_un (by omega), g_un (by omega)]; assumption) | ((repeat (rw [g_un (by omega)])); first | exact m.1 | exact m0.1 | exact m1.1 | exact m2.1 | exact m3.1 | exact m4.1 | exact m5.1 | exact g_us | assumption)) ((k_nextChar m q)) (by omega) (Nat.le_of_ble_eq_true rfl) (by omega) (by omega) rfl (Nat.le_of_ble_eq_true rfl) rfl (kI fun r1 h1 n1 e1 => ?_) kN
  obtain ⟨rfl, rfl, rfl⟩ := e1
  refine r_iload1 dX3_reads_4 ?_
  refine r_icmp_eq (tgt := 10) dX3_reads_5 (by decide) (fun c5 => ?_) (fun c5 => ?_)
  · have c5 := (nx_c q hk).mp c5
    refine r_aload0 dX3_reads_10 ?_
    refine r_dup dX3_reads_11 ?_
    refine f_X3_277_X3 dX3_reads_12 m.1 ?_
    refine r_iconst (v := nI 1) dX3_reads_15 (by decide) ?_
    refine r_iadd dX3_reads_16 (show _ = nI (i + 1) by rw [q.2.1]; exact nI_add _ _) ?_
    refine p_X3_277_X3 dX3_reads_17 (by omega) m.1 ?_
    refine r_iconst (v := nI 1) dX3_reads_20 (by decide) ?_
    exact r_ireturn dX3_reads_21 rfl (by first | exact nB_nar | rfl) (⟨_, nB_t c5, m.oo rfl, by rw [if_pos c5]; exact q.at c5.1, mT.up (k := 0) (by decide), rfl⟩)
  · have c5 := fun z => c5 ((nx_c q hk).mpr z)
    refine r_iconst (v := nI 0) dX3_reads_8 (by decide) ?_
    exact r_ireturn dX3_reads_9 rfl (by first | exact nB_nar | rfl) (⟨V, nB_f c5, m, by rw [if_neg c5]; exact q, mT.rf, rfl⟩)
theorem k_readsDigit (hb : k_b K ≤ a) (m : mS a V R A h) (q : pS V0 t i N so V) (hk : k < 2) : g_Met K mX3_readsDigit 2 0 0 [.ref a, .int (nI k)] h n (gI fun r h' n' => ∃ V', r = nB (isD t i) ∧ mS a V' R A h' ∧ pS V0 t (if isD t i then i + 1 else i) (if isD t i then fup N k (t.getD i 0 - 48) else N) so V' ∧ mT a h h' ∧ n' = n) gN := by
  have hi := q.2.2.1
  refine g_Met.of (M := mX3_readsDigit) (L := [some (.ref a), some (.int (nI k))]) (by decide +kernel) (Nat.le_of_ble_eq_true rfl) rfl ?_
  refine r_aload0 dX3_readsDigit_0 ?_
  refine r_callV (M' := mX3_nextChar) _ dX3_readsDigit_1 q3924 q3926 qs112 rfl (lw_all_tbl q3927) q138 (by exact pl_X3_nextChar) gc_X3 (by first | exact m.1 | exact m0.1 | exact m1.1 | exact m2.1 | exact m3.1 | exact m4.1 | exact m5.1 | assumption | exact g_us | (rw [g_un (by omega)]; assumption) | (rw [g_un (by omega)]; exact g_us) | (rw [g_un (by omega), g_un (by omega)]; assumption) | (rw [g_un (by omega), g_un (by omega)]; exact g_us) | (rw [g_un (by omega), g_un (by omega), g_un (by omega)]; assumption) | ((repeat (rw [g_un (by omega)])); first | exact m.1 | exact m0.1 | exact m1.1 | exact m2.1 | exact m3.1 | exact m4.1 | exact m5.1 | exact g_us | assumption)) ((k_nextChar m q)) (by omega) (Nat.le_of_ble_eq_true rfl) (by omega) (by omega) rfl (Nat.le_of_ble_eq_true rfl) rfl (kI fun r1 h1 n1 e1 => ?_) kN
  obtain ⟨rfl, rfl, rfl⟩ := e1
  refine r_bipush (v := nI 48) dX3_readsDigit_4 (by decide) ?_
  refine r_bipush (v := nI 57) dX3_readsDigit_6 (by decide) ?_
  refine r_callS (M' := mX3_isBetween) _ dX3_readsDigit_8 q3482 q3483 rfl (lw_all_tbl q3484) q138 (by exact pl_X3_isBetween)  ((k_bt (by decide) (by decide))) (by omega) (Nat.le_of_ble_eq_true rfl) (by omega) (by omega) rfl (Nat.le_of_ble_eq_true rfl) rfl (kI fun r8 h8 n8 e8 => ?_) kN
  obtain ⟨rfl, rfl, rfl⟩ := e8
  refine r_if_neB (tgt := 16) dX3_readsDigit_11 (by decide) (fun c11 => ?_) (fun c11 => ?_)
  · have c11 := (nx_d q).mp c11
    refine r_aload0 dX3_readsDigit_16 ?_
    refine f_X3_43_X3 dX3_readsDigit_17 m.1 ?_
    refine r_iload1 dX3_readsDigit_20 ?_
    refine r_aload0 dX3_readsDigit_21 ?_
    refine r_callV (M' := mX3_nextChar) _ dX3_readsDigit_22 q3924 q3926 qs112 rfl (lw_all_tbl q3927) q138 (by exact pl_X3_nextChar) gc_X3 (by first | exact m.1 | exact m0.1 | exact m1.1 | exact m2.1 | exact m3.1 | exact m4.1 | exact m5.1 | assumption | exact g_us | (rw [g_un (by omega)]; assumption) | (rw [g_un (by omega)]; exact g_us) | (rw [g_un (by omega), g_un (by omega)]; assumption) | (rw [g_un (by omega), g_un (by omega)]; exact g_us) | (rw [g_un (by omega), g_un (by omega), g_un (by omega)]; assumption) | ((repeat (rw [g_un (by omega)])); first | exact m.1 | exact m0.1 | exact m1.1 | exact m2.1 | exact m3.1 | exact m4.1 | exact m5.1 | exact g_us | assumption)) ((k_nextChar m q)) (by omega) (Nat.le_of_ble_eq_true rfl) (by omega) (by omega) rfl (Nat.le_of_ble_eq_true rfl) rfl (kI fun r22 h22 n22 e22 => ?_) kN
    obtain ⟨rfl, rfl, rfl⟩ := e22
    refine r_bipush (v := nI 48) dX3_readsDigit_25 (by decide) ?_
    refine r_isub dX3_readsDigit_27 (show _ = nI (t.getD i 0 - 48) by unfold nxI; rw [if_pos c11.1]; exact pk_sub c11.2.1) ?_
    refine r_iastore (k) dX3_readsDigit_28 (by omega) m.nn rfl (by omega) (by rw [aI_len]; omega) ?_
    refine m.goN (fun h1 m1 t1 => ?_)
    have q1 := q.nu (k := k) (x := t.getD i 0 - 48) hk
    refine r_aload0 dX3_readsDigit_29 ?_
    refine r_dup dX3_readsDigit_30 ?_
    refine f_X3_277_X3 dX3_readsDigit_31 m1.1 ?_
    refine r_iconst (v := nI 1) dX3_readsDigit_34 (by decide) ?_
    refine r_iadd dX3_readsDigit_35 (show _ = nI (i + 1) by rw [q1.2.1]; exact nI_add _ _) ?_
    refine p_X3_277_X3 dX3_readsDigit_36 (by omega) m1.1 ?_
    refine r_iconst (v := nI 1) dX3_readsDigit_39 (by decide) ?_
    exact r_ireturn dX3_readsDigit_40 rfl (by first | exact nB_nar | rfl) (⟨_, nB_t c11, m1.oo rfl, by rw [if_pos c11, if_pos c11]; exact q1.at c11.1, t1.tr (mT.up (k := 0) (by decide)), rfl⟩)
  · have c11 := fun z => c11 ((nx_d q).mpr z)
    refine r_iconst (v := nI 0) dX3_readsDigit_14 (by decide) ?_
    exact r_ireturn dX3_readsDigit_15 rfl (by first | exact nB_nar | rfl) (⟨V, nB_f c11, m, by rw [if_neg c11, if_neg c11]; exact q, mT.rf, rfl⟩)
theorem k_readsNumber (hb : k_b K ≤ a) (m : mS a V R A h) (q : pS V0 t i N so V) (hk : k < 2) : g_Met K mX3_readsNumber 3 0 0 [.ref a, .int (nI k)] h n (gI fun r h' n' => ∃ V', r = nB (isD t i) ∧ mS a V' R A h' ∧ pS V0 t (if isD t i then (nuR t (i + 1) (t.getD i 0 - 48) 3).1 else i) (if isD t i then fup N k (nuR t (i + 1) (t.getD i 0 - 48) 3).2 else N) so V' ∧ mT a h h' ∧ n' = n) gN := by
  have hi := q.2.2.1
  refine g_Met.of (M := mX3_readsNumber) (L := [some (.ref a), some (.int (nI k)), none]) (by decide +kernel) (Nat.le_of_ble_eq_true rfl) rfl ?_
  have loop : ∀ (j i1 v : Nat) (V1 : Nat → Nat → Int32) (h1 : g_P), isD t i → j ≤ 3 → v < 10 ^ (4 - j) → nuR t (i + 1) (t.getD i 0 - 48) 3 = nuR t i1 v j → mS a V1 R A h1 → pS V0 t i1 (fup N k v) so V1 → mT a h h1 → g_G K mX3_readsNumber 3 0 0 (gI fun r h' n' => ∃ V', r = nB (isD t i) ∧ mS a V' R A h' ∧ pS V0 t (if isD t i then (nuR t (i + 1) (t.getD i 0 - 48) 3).1 else i) (if isD t i then fup N k (nuR t (i + 1) (t.getD i 0 - 48) 3).2 else N) so V' ∧ mT a h h' ∧ n' = n) gN 12 [some (.ref a), some (.int (nI k)), some (.int (nI (3 - j)))] [] h1 n := by
    intro j
    induction j with
    | zero =>
      intro i1 v V1 h1 cd hj hv he m1 q1 t1
      refine r_iload2 dX3_readsNumber_12 ?_
      refine r_iconst (v := nI 3) dX3_readsNumber_13 (by decide) ?_
      refine r_icmp_geN (tgt := 70) dX3_readsNumber_14 (by decide) (by omega) (by omega) (fun c14 => ?_) (fun c14 => absurd c14 (by omega))
      refine r_iconst (v := nI 1) dX3_readsNumber_70 (by decide) ?_
      exact r_ireturn dX3_readsNumber_71 rfl (by first | exact nB_nar | rfl) (⟨V1, nB_t cd, m1, by rw [if_pos cd, if_pos cd, he]; exact q1, t1, rfl⟩)
    | succ j ih =>
      intro i1 v V1 h1 cd hj hv he m1 q1 t1
      have hp : 10 ^ (4 - (j + 1)) ≤ 1000 := by
        have : 10 ^ (4 - (j + 1)) ≤ 10 ^ 3 := Nat.pow_le_pow_right (by decide) (by omega)
        omega
      have hp2 : 10 ^ (4 - j) = 10 ^ (4 - (j + 1)) * 10 := by rw [← Nat.pow_succ, show (4 - (j + 1)).succ = 4 - j by omega]
      have hv9 := q1.2.2.2.1 k hk
      rw [fup_s] at hv9
      refine r_iload2 dX3_readsNumber_12 ?_
      refine r_iconst (v := nI 3) dX3_readsNumber_13 (by decide) ?_
      refine r_icmp_geN (tgt := 70) dX3_readsNumber_14 (by decide) (by omega) (by omega) (fun c14 => absurd c14 (by omega)) (fun c14 => ?_)
      refine r_aload0 dX3_readsNumber_17 ?_
      refine r_callV (M' := mX3_nextChar) _ dX3_readsNumber_18 q3924 q3926 qs112 rfl (lw_all_tbl q3927) q138 (by exact pl_X3_nextChar) gc_X3 (by first | exact m.1 | exact m0.1 | exact m1.1 | exact m2.1 | exact m3.1 | exact m4.1 | exact m5.1 | assumption | exact g_us | (rw [g_un (by omega)]; assumption) | (rw [g_un (by omega)]; exact g_us) | (rw [g_un (by omega), g_un (by omega)]; assumption) | (rw [g_un (by omega), g_un (by omega)]; exact g_us) | (rw [g_un (by omega), g_un (by omega), g_un (by omega)]; assumption) | ((repeat (rw [g_un (by omega)])); first | exact m.1 | exact m0.1 | exact m1.1 | exact m2.1 | exact m3.1 | exact m4.1 | exact m5.1 | exact g_us | assumption)) ((k_nextChar m1 q1)) (by omega) (Nat.le_of_ble_eq_true rfl) (by omega) (by omega) rfl (Nat.le_of_ble_eq_true rfl) rfl (kI fun r18 h18 n18 e18 => ?_) kN
      obtain ⟨rfl, rfl, rfl⟩ := e18
      refine r_bipush (v := nI 48) dX3_readsNumber_21 (by decide) ?_
      refine r_bipush (v := nI 57) dX3_readsNumber_23 (by decide) ?_
      refine r_callS (M' := mX3_isBetween) _ dX3_readsNumber_25 q3482 q3483 rfl (lw_all_tbl q3484) q138 (by exact pl_X3_isBetween)  ((k_bt (by decide) (by decide))) (by omega) (Nat.le_of_ble_eq_true rfl) (by omega) (by omega) rfl (Nat.le_of_ble_eq_true rfl) rfl (kI fun r25 h25 n25 e25 => ?_) kN
      obtain ⟨rfl, rfl, rfl⟩ := e25
      refine r_if_eqB (tgt := 70) dX3_readsNumber_28 (by decide) (fun c28 => ?_) (fun c28 => ?_)
      · have c28 := fun z => c28 ((nx_d q1).mpr z)
        refine r_iconst (v := nI 1) dX3_readsNumber_70 (by decide) ?_
        exact r_ireturn dX3_readsNumber_71 rfl (by first | exact nB_nar | rfl) (⟨V1, nB_t cd, m1, by rw [if_pos cd, if_pos cd, he, nuR_n c28]; exact q1, t1, rfl⟩)
      · have c28 := (nx_d q1).mp c28
        refine r_aload0 dX3_readsNumber_31 ?_
        refine f_X3_43_X3 dX3_readsNumber_32 m1.1 ?_
        refine r_iload1 dX3_readsNumber_35 ?_
        refine r_bipush (v := nI 10) dX3_readsNumber_36 (by decide) ?_
        refine r_aload0 dX3_readsNumber_38 ?_
        refine f_X3_43_X3 dX3_readsNumber_39 m1.1 ?_
        refine r_iload1 dX3_readsNumber_42 ?_
        refine r_iaload (k) dX3_readsNumber_43 m1.nn rfl (by omega) (by rw [aI_at hk, hv9]) ?_
        refine r_imul dX3_readsNumber_44 (by first | exact pk_mul _ _ | rfl) ?_
        refine r_aload0 dX3_readsNumber_45 ?_
        refine r_callV (M' := mX3_nextChar) _ dX3_readsNumber_46 q3924 q3926 qs112 rfl (lw_all_tbl q3927) q138 (by exact pl_X3_nextChar) gc_X3 (by first | exact m.1 | exact m0.1 | exact m1.1 | exact m2.1 | exact m3.1 | exact m4.1 | exact m5.1 | assumption | exact g_us | (rw [g_un (by omega)]; assumption) | (rw [g_un (by omega)]; exact g_us) | (rw [g_un (by omega), g_un (by omega)]; assumption) | (rw [g_un (by omega), g_un (by omega)]; exact g_us) | (rw [g_un (by omega), g_un (by omega), g_un (by omega)]; assumption) | ((repeat (rw [g_un (by omega)])); first | exact m.1 | exact m0.1 | exact m1.1 | exact m2.1 | exact m3.1 | exact m4.1 | exact m5.1 | exact g_us | assumption)) ((k_nextChar m1 q1)) (by omega) (Nat.le_of_ble_eq_true rfl) (by omega) (by omega) rfl (Nat.le_of_ble_eq_true rfl) rfl (kI fun r46 h46 n46 e46 => ?_) kN
        obtain ⟨rfl, rfl, rfl⟩ := e46
        refine r_iadd dX3_readsNumber_49 (show _ = nI (10 * v + t.getD i1 0) by unfold nxI; rw [if_pos c28.1]; exact nI_add _ _) ?_
        refine r_bipush (v := nI 48) dX3_readsNumber_50 (by decide) ?_
        refine r_isub dX3_readsNumber_52 (show _ = nI (10 * v + (t.getD i1 0 - 48)) by rw [pk_sub (by omega), show 10 * v + t.getD i1 0 - 48 = 10 * v + (t.getD i1 0 - 48) by omega]) ?_
        refine r_iastore (k) dX3_readsNumber_53 (by omega) m1.nn rfl (by omega) (by rw [aI_len]; omega) ?_
        refine m1.goN (fun h2 m2 t2 => ?_)
        have q2 := q1.nu (k := k) (x := 10 * v + (t.getD i1 0 - 48)) hk
        rw [fup_fup] at q2
        refine r_aload0 dX3_readsNumber_54 ?_
        refine r_dup dX3_readsNumber_55 ?_
        refine f_X3_277_X3 dX3_readsNumber_56 m2.1 ?_
        refine r_iconst (v := nI 1) dX3_readsNumber_59 (by decide) ?_
        refine r_iadd dX3_readsNumber_60 (show _ = nI (i1 + 1) by rw [q2.2.1]; exact nI_add _ _) ?_
        refine p_X3_277_X3 dX3_readsNumber_61 (by omega) m2.1 ?_
        refine r_iinc2 dX3_readsNumber_64 (show _ = nI (3 - j) by rw [ii1, show 3 - (j + 1) + 1 = 3 - j by omega]) ?_
        refine r_goto (tgt := 12) dX3_readsNumber_67 (by decide) ?_
        exact ih (i1 + 1) (10 * v + (t.getD i1 0 - 48)) _ _ cd (by omega) (by omega) (he.trans (nuR_y c28)) (m2.oo rfl) (q2.at c28.1) ((t1.tr t2).tr (mT.up (k := 0) (by decide)))
  refine r_aload0 dX3_readsNumber_0 ?_
  refine r_iload1 dX3_readsNumber_1 ?_
  refine r_callV (M' := mX3_readsDigit) _ dX3_readsNumber_2 q3936 q3938 qs115 rfl (lw_all_tbl q3939) q138 (by exact pl_X3_readsDigit) gc_X3 (by first | exact m.1 | exact m0.1 | exact m1.1 | exact m2.1 | exact m3.1 | exact m4.1 | exact m5.1 | assumption | exact g_us | (rw [g_un (by omega)]; assumption) | (rw [g_un (by omega)]; exact g_us) | (rw [g_un (by omega), g_un (by omega)]; assumption) | (rw [g_un (by omega), g_un (by omega)]; exact g_us) | (rw [g_un (by omega), g_un (by omega), g_un (by omega)]; assumption) | ((repeat (rw [g_un (by omega)])); first | exact m.1 | exact m0.1 | exact m1.1 | exact m2.1 | exact m3.1 | exact m4.1 | exact m5.1 | exact g_us | assumption)) ((k_readsDigit hb m q hk)) (by omega) (Nat.le_of_ble_eq_true rfl) (by omega) (by omega) rfl (Nat.le_of_ble_eq_true rfl) rfl (kI fun r2 h2 n2 e2 => ?_) kN
  obtain ⟨V1, rfl, m1, q1, t1, rfl⟩ := e2
  refine r_if_neB (tgt := 10) dX3_readsNumber_5 (by decide) (fun c5 => ?_) (fun c5 => ?_)
  · refine r_iconst (v := nI 0) dX3_readsNumber_10 (by decide) ?_
    refine r_istore2 dX3_readsNumber_11 ?_
    exact loop 3 (i + 1) (t.getD i 0 - 48) V1 _ c5 (by decide) (by show _ < 10 ^ 1; omega) rfl m1 (by rw [if_pos c5, if_pos c5] at q1; exact q1) t1
  · refine r_iconst (v := nI 0) dX3_readsNumber_8 (by decide) ?_
    exact r_ireturn dX3_readsNumber_9 rfl (by first | exact nB_nar | rfl) (⟨V1, nB_f c5, m1, by rw [if_neg c5, if_neg c5] at q1; rw [if_neg c5, if_neg c5]; exact q1, t1, rfl⟩)
end
