/-! local builders; the texts of a fraction, a bowl, the bowls; a decimal number -/
set_option maxRecDepth 100000
/-- a constant's signs -/
def kS (t : String) : List Nat := t.toList.map Char.toNat
theorem kS_by {t : String} : c_by t.toList = byt (kS t) := by
  unfold c_by byt kS
  rw [List.map_map]
  rfl
/-- a builder that has been made since n0 -/
def sbL (K : g_K) (n0 s : Nat) (T : List Nat) (h0 h : g_P) (n : Nat) : Prop := ∃ e cap, sbT K s e cap T h ∧ k_b K ≤ s ∧ n0 ≤ s ∧ n0 ≤ e ∧ e < n ∧ s < n ∧ n0 ≤ n ∧ ∀ q : Nat, q < n0 → h q = h0 q
section
variable {K : g_K} {W : c_W} {s n n0 : Nat} {T : List Nat} {h h0 : g_P}
theorem cOK.kS (w : cOK K W) (f : ∀ a : Nat, a < k_b K → h a = k_p K a) {z : String × Nat × String} (hz : z ∈ lw_strs) (hc : ∀ c ∈ kS z.2.2, c < 128) : ∃ b, b < k_b K ∧ c_S W z.2.2 < k_b K ∧ strT (c_S W z.2.2) b (kS z.2.2) h := by
  obtain ⟨-, q2, b, q3, ⟨x, y, q4⟩, q5⟩ := w.2.2.2.2.2.1 z hz
  exact ⟨b, q3, q2, ⟨x, y, by rw [f _ q2]; exact q4⟩, by rw [f _ q3, ← kS_by]; exact q5, hc⟩
theorem sbL.cell (l : sbL K n0 s T h0 h n) : ∃ vs, h s = some (g_ob 20 vs) := by
  obtain ⟨e, cap, t, -⟩ := l
  exact t.cell
theorem sbL.fr (l : sbL K n0 s T h0 h n) : ∀ q : Nat, q < n0 → h q = h0 q := by
  obtain ⟨e, cap, t, z1, z2, z3, z4, z5, z6, z7⟩ := l
  exact z7
theorem sbL.le (l : sbL K n0 s T h0 h n) : n0 ≤ n ∧ n0 ≤ s ∧ s < n := by
  obtain ⟨e, cap, t, z1, z2, z3, z4, z5, z6, z7⟩ := l
  exact ⟨z6, z2, z5⟩
/-- something new is made besides -/
theorem sbL.new {h' : g_P} {n' : Nat} (l : sbL K n0 s T h0 h n) (e : ∀ q : Nat, q < n → h' q = h q) (hn : n ≤ n') : sbL K n0 s T h0 h' n' := by
  obtain ⟨e', cap, t, z1, z2, z3, z4, z5, z6, z7⟩ := l
  exact ⟨e', cap, t.of (e _ z5) (e _ z4), z1, z2, z3, by omega, by omega, by omega, fun q hq => (e q (by omega)).trans (z7 q hq)⟩
theorem k_lInit (w0 : cOK K W) (bn : k_b K ≤ n) : g_Met K mJ8_init 2 1 16 [.ref n] (g_up h n (g_ob 20 [.null, .int (nI 0), .int (nI 0), .int (nI 0)])) (n + 1) (gV fun h' n' => sbL K n n [] h h' n' ∧ n' = n + 2) gN := by
  refine g_Met.facts fun f1 f2 f3 => ?_
  refine (k_J8_init (ct := nI 0) w0 bn g_us).mono (fun v h' n' hq => ?_) (fun q h' n' hx => hx)
  obtain ⟨hv, z1, z2, z3⟩ := hq
  exact ⟨hv, ⟨n + 1, 16, z1, bn, Nat.le_refl _, Nat.le_succ _, by omega, by omega, by omega, fun q hq => by rw [z2 q (by omega) (by omega), g_un (by omega)]⟩, by omega⟩
theorem sbP.loc {h' : g_P} {n' e cap : Nat} {T' : List Nat} (t : sbT K s e cap T h) (z1 : k_b K ≤ s) (z2 : n0 ≤ s) (z3 : n0 ≤ e) (z5 : s < n) (z6 : n0 ≤ n) (z7 : ∀ q : Nat, q < n0 → h q = h0 q) (f2 : ∀ (a : Nat) (c : g_C), h a = some c → a < n) (p : sbP K s e T' h n h' n') : sbL K n0 s T' h0 h' n' ∧ n' ≤ n + 1 ∧ ∀ (q k : Nat) (vs : List Value), h q = some (g_ob k vs) → k ≠ 20 → h' q = h q := by
  obtain ⟨e', cap', t', a1, a2, a3, a4, a5⟩ := p
  refine ⟨⟨e', cap', t', z1, z2, by omega, a2, by omega, by omega, fun q hq => (a3 q (by omega) (by omega) (by omega)).trans (z7 q hq)⟩, a5, fun q k vs q1 q2 => a3 q (f2 _ _ q1) (fun z => ?_) (fun z => ?_)⟩
  · obtain ⟨ws, q3⟩ := t.cell
    rw [z, q3] at q1
    exact q2 (obj_inj q1).symm
  · obtain ⟨ws, q3⟩ := t.arr
    rw [z, q3] at q1
    exact obj_arr q1.symm
theorem k_lI {v : Nat} (w0 : cOK K W) (l : sbL K n0 s T h0 h n) (hv : v < 1000000000) (hn : T.length + (dgN v).length ≤ 71) : g_Met K mJ8_append_2 5 1 150 [.ref s, .int (nI v)] h n (gA fun r h' n' => r = .ref s ∧ sbL K n0 s (T ++ dgN v) h0 h' n' ∧ n' ≤ n + 1 ∧ ∀ (q k : Nat) (vs : List Value), h q = some (g_ob k vs) → k ≠ 20 → h' q = h q) gN := by
  refine g_Met.facts fun f1 f2 f3 => ?_
  obtain ⟨e, cap, t, z1, z2, z3, z4, z5, z6, z7⟩ := l
  refine (k_appendI w0 z1 t hv hn).mono (fun v h' n' hq => ?_) (fun q h' n' hx => hx)
  obtain ⟨r, hr, tr, rfl, p⟩ := hq
  exact ⟨_, hr, tr, rfl, sbP.loc t z1 z2 z3 z5 z6 z7 f2 p⟩
theorem k_lC {c : Nat} (w0 : cOK K W) (l : sbL K n0 s T h0 h n) (hc : c < 128) (hn : T.length < 71) : g_Met K mJ8_append_4 5 1 150 [.ref s, .int (nI c)] h n (gA fun r h' n' => r = .ref s ∧ sbL K n0 s (T ++ [c]) h0 h' n' ∧ n' ≤ n + 1 ∧ ∀ (q k : Nat) (vs : List Value), h q = some (g_ob k vs) → k ≠ 20 → h' q = h q) gN := by
  refine g_Met.facts fun f1 f2 f3 => ?_
  obtain ⟨e, cap, t, z1, z2, z3, z4, z5, z6, z7⟩ := l
  refine (k_appendC w0 z1 t hc hn).mono (fun v h' n' hq => ?_) (fun q h' n' hx => hx)
  obtain ⟨r, hr, tr, rfl, p⟩ := hq
  exact ⟨_, hr, tr, rfl, sbP.loc t z1 z2 z3 z5 z6 z7 f2 p⟩
theorem k_lS {a b : Nat} {S : List Nat} (w0 : cOK K W) (l : sbL K n0 s T h0 h n) (tS : strT a b S h) (hn : T.length + S.length ≤ 71) : g_Met K mJ8_append 5 1 150 [.ref s, .ref a] h n (gA fun r h' n' => r = .ref s ∧ sbL K n0 s (T ++ S) h0 h' n' ∧ n' ≤ n + 1 ∧ ∀ (q k : Nat) (vs : List Value), h q = some (g_ob k vs) → k ≠ 20 → h' q = h q) gN := by
  refine g_Met.facts fun f1 f2 f3 => ?_
  obtain ⟨e, cap, t, z1, z2, z3, z4, z5, z6, z7⟩ := l
  have as : a ≠ s := fun z => by
    obtain ⟨⟨x, y, q1⟩, -⟩ := tS
    obtain ⟨vs, q2⟩ := t.cell
    rw [z, q2] at q1
    exact absurd (obj_inj q1) (by decide)
  refine (k_appendS w0 z1 t tS hn as).mono (fun v h' n' hq => ?_) (fun q h' n' hx => hx)
  obtain ⟨r, hr, tr, rfl, p⟩ := hq
  exact ⟨_, hr, tr, rfl, sbP.loc t z1 z2 z3 z5 z6 z7 f2 p⟩
theorem k_lStr (w0 : cOK K W) (l : sbL K n0 s T h0 h n) : g_Met K mJ8_toString 5 2 154 [.ref s] h n (gA fun r h' n' => r = .ref n ∧ strT n (n + 1) T h' ∧ (∀ q : Nat, q < n → h' q = h q) ∧ n' = n + 2) gN := by
  obtain ⟨e, cap, t, z1, z2, z3, z4, z5, z6, z7⟩ := l
  exact k_sbStr w0 t
theorem sbL.upd {h' : g_P} {it kk : Nat} {vs : List Value} (l : sbL K n0 s T h0 h n) (hc : h it = some (g_ob kk vs)) (hk : kk ≠ 20) (hi : n0 ≤ it) (e : ∀ q : Nat, q ≠ it → h' q = h q) : sbL K n0 s T h0 h' n := by
  obtain ⟨e', cap, t, z1, z2, z3, z4, z5, z6, z7⟩ := l
  refine ⟨e', cap, t.of (e _ fun z => ?_) (e _ fun z => ?_), z1, z2, z3, z4, z5, z6, fun q hq => (e q (by omega)).trans (z7 q hq)⟩
  · obtain ⟨ws, q3⟩ := t.cell
    rw [z, hc] at q3
    exact hk (obj_inj q3)
  · obtain ⟨ws, q3⟩ := t.arr
    rw [z, hc] at q3
    exact obj_arr q3
theorem k_lLen (l : sbL K n0 s T h0 h n) : g_Met K mJ8_length 1 0 0 [.ref s] h n (gI fun r h' n' => r = nI T.length ∧ h' = h ∧ n' = n) gN := by
  obtain ⟨e, cap, t, -⟩ := l
  exact k_sbLen t
/-- the answer: a new String with the text T -/
def strN (T : List Nat) (h : g_P) (n g : Nat) (r : Value) (h' : g_P) (n' : Nat) : Prop := ∃ a b, r = .ref a ∧ strT a b T h' ∧ n ≤ a ∧ n ≤ b ∧ a < n' ∧ b < n' ∧ (∀ q : Nat, q < n → h' q = h q) ∧ n ≤ n' ∧ n' ≤ n + g
theorem dgN_b {v m : Nat} (h : v < 10 ^ (m + 1)) (hm : m ≤ 7) : (dgN v).length ≤ m + 1 := by
  rw [dgN_len]
  have := ndg_s h hm
  omega
theorem k_frStr {a x y : Nat} (w0 : cOK K W) (ho : h a = some (g_ob 4 [.int (nI x), .int (nI y)])) (hx : x ≤ 9999) (hy : y ≤ 12) : g_Met K mX6_toString 6 7 630 [.ref a] h n (gA fun r h' n' => strN (dgN x ++ 47 :: dgN y) h n 7 r h' n') gN := by
  refine g_Met.facts fun f1 f2 f3 => ?_
  have an := f2 _ _ ho
  have b1 : (dgN x).length ≤ 4 := dgN_b (m := 3) (by omega) (by decide)
  have b2 : (dgN y).length ≤ 2 := dgN_b (m := 1) (by omega) (by decide)
  refine g_Met.of (M := mX6_toString) (L := [some (.ref a)]) (by decide +kernel) (Nat.le_of_ble_eq_true rfl) rfl ?_
  refine n_X6_41 dX6_toString_0 (by omega) (by omega) ?_
  refine r_dup dX6_toString_3 ?_
  refine r_callI (M' := mJ8_init) _ dX6_toString_4 q2852 q342 rfl rfl rfl (lw_all_tbl q343) q135 (by exact pl_J8_init)  ((k_lInit (h := h) w0 f1)) (by omega) (Nat.le_of_ble_eq_true rfl) (by omega) (by omega) rfl (Nat.le_of_ble_eq_true rfl) rfl (kV fun h4 n4 e4 => ?_) kN
  obtain ⟨l, rfl⟩ := e4
  refine r_aload0 dX6_toString_7 ?_
  refine f_X6_13_X6 dX6_toString_8 ((l.fr a an).trans ho) ?_
  obtain ⟨vs, hc⟩ := l.cell
  refine r_callV (M' := mJ8_append_2) _ dX6_toString_11 q2853 q674 q675 rfl (lw_all_tbl q676) q135 (by exact pl_J8_append_2) gc_J8 hc ((k_lI w0 l (by omega) (by simp; omega))) (by omega) (Nat.le_of_ble_eq_true rfl) (by omega) (by omega) rfl (Nat.le_of_ble_eq_true rfl) rfl (kA fun r11 h11 n11 t11 e11 => ?_) kN
  obtain ⟨rfl, l2, g1⟩ := e11
  refine g_facts fun _ _ i3 => ?_
  obtain ⟨b, w1, w2, w3⟩ := w0.kS i3 (z := ("DoughLedger$Fraction", 48, "/")) (by decide) (by decide)
  obtain ⟨vs2, hc2⟩ := l2.cell
  refine r_ldcS dX6_toString_14 ((w0.2.2.2.2.2.1 ("DoughLedger$Fraction", 48, "/") (by decide)).1) ?_
  refine r_callV (M' := mJ8_append) _ dX6_toString_16 q2855 q554 q555 rfl (lw_all_tbl q556) q135 (by exact pl_J8_append) gc_J8 hc2 ((k_lS w0 l2 w3 (by rw [show (kS "/").length = 1 from rfl]; simp; omega))) (by omega) (Nat.le_of_ble_eq_true rfl) (by omega) (by omega) rfl (Nat.le_of_ble_eq_true rfl) rfl (kA fun r16 h16 n16 t16 e16 => ?_) kN
  obtain ⟨rfl, l3, g2⟩ := e16
  obtain ⟨vs3, hc3⟩ := l3.cell
  refine r_aload0 dX6_toString_19 ?_
  refine f_X6_19_X6 dX6_toString_20 ((l3.fr a an).trans ho) ?_
  refine r_callV (M' := mJ8_append_2) _ dX6_toString_23 q2853 q674 q675 rfl (lw_all_tbl q676) q135 (by exact pl_J8_append_2) gc_J8 hc3 ((k_lI w0 l3 (by omega) (by rw [show kS "/" = [47] from rfl]; simp; omega))) (by omega) (Nat.le_of_ble_eq_true rfl) (by omega) (by omega) rfl (Nat.le_of_ble_eq_true rfl) rfl (kA fun r23 h23 n23 t23 e23 => ?_) kN
  obtain ⟨rfl, l4, g3⟩ := e23
  obtain ⟨vs4, hc4⟩ := l4.cell
  refine r_callV (M' := mJ8_toString) _ dX6_toString_26 q2856 q700 q701 rfl (lw_all_tbl q702) q135 (by exact pl_J8_toString) gc_J8 hc4 ((k_lStr w0 l4)) (by omega) (Nat.le_of_ble_eq_true rfl) (by omega) (by omega) rfl (Nat.le_of_ble_eq_true rfl) rfl (kA fun r26 h26 n26 t26 e26 => ?_) kN
  obtain ⟨rfl, p1, p2, rfl⟩ := e26
  have p3 := l4.le
  exact r_areturn dX6_toString_29 rfl (Or.inl ⟨_, rfl⟩) (Or.inr ⟨_, rfl⟩) (⟨_, _, rfl, by rw [show dgN x ++ 47 :: dgN y = [] ++ dgN x ++ kS "/" ++ dgN y by rw [show kS "/" = [47] from rfl]; simp]; exact p1, p3.1, Nat.le_succ_of_le p3.1, Nat.lt_succ_of_lt (Nat.lt_succ_self _), Nat.lt_succ_self _, fun q hq => (p2 q (Nat.lt_of_lt_of_le hq p3.1)).trans (l4.fr q hq), Nat.le_trans p3.1 (Nat.le_add_right _ 2), show n23 + 2 ≤ n + 7 by omega⟩)
end
