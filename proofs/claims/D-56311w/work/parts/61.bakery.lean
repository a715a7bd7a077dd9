/-! a bakery of the component's: its heap; questions that only read it -/
set_option maxRecDepth 100000
def bw (ρ : Nat → Nat) (i : Nat) : g_C := g_ob 5 [.int (nI (ρ (22 + 2 * i))), .int (nI (ρ (23 + 2 * i)))]
def lf (ρ : Nat → Nat) (i : Nat) : g_C := g_ob 6 [.int (nI (ρ (32 + 3 * i))), .int (nI (ρ (33 + 3 * i))), .int (nI (ρ (34 + 3 * i)))]
def fc (ρ : Nat → Nat) (i : Nat) : g_C := g_ob 4 [.int (nI (ρ (10 + 2 * i))), .int (nI (ρ (11 + 2 * i)))]
def blist (n : Nat) (B : Nat → Nat) : List Value := (List.range n).map fun i => .ref (B i)
def dlist (W : c_W) (n : Nat) (N F : Nat → Nat) : List c_N := (List.range n).map fun i => (N i, .ref (c_i W i), .ref (F i))
theorem blist_len {n : Nat} {B : Nat → Nat} : (blist n B).length = n := by simp [blist]
theorem blist_at {n i : Nat} {B : Nat → Nat} (h : i < n) : (blist n B)[i]? = some (.ref (B i)) := by simp [blist, h]
theorem dlist_len {W : c_W} {n : Nat} {N F : Nat → Nat} : (dlist W n N F).length = n := by simp [dlist]
def dtail (W : c_W) (i n : Nat) (N F : Nat → Nat) : List c_N := (List.range (n - (i + 1))).map fun k => (N (i + 1 + k), .ref (c_i W (i + 1 + k)), .ref (F (i + 1 + k)))
theorem dlist_split {W : c_W} {n i : Nat} {N F : Nat → Nat} (h : i < n) : dlist W n N F = dlist W i N F ++ (N i, .ref (c_i W i), .ref (F i)) :: dtail W i n N F := by
  obtain ⟨g, rfl⟩ : ∃ g, n = i + 1 + g := ⟨n - (i + 1), by omega⟩
  unfold dlist dtail
  rw [List.range_add, List.range_succ, show i + 1 + g - (i + 1) = g by omega]
  simp
theorem dtail_mem {W : c_W} {i n : Nat} {N F : Nat → Nat} {z : c_N} (h : z ∈ dtail W i n N F) : ∃ k, i < k ∧ k < n ∧ z = (N k, .ref (c_i W k), .ref (F k)) := by
  simp only [dtail, List.mem_map, List.mem_range] at h
  obtain ⟨k, hk, rfl⟩ := h
  exact ⟨i + 1 + k, by omega, by omega, rfl⟩
theorem dlist_mem {W : c_W} {n : Nat} {N F : Nat → Nat} {z : c_N} (h : z ∈ dlist W n N F) : ∃ i, i < n ∧ z = (N i, .ref (c_i W i), .ref (F i)) := by
  simp [dlist] at h
  obtain ⟨i, hi, rfl⟩ := h
  exact ⟨i, hi, rfl⟩
abbrev inR (lo hi a : Nat) : Prop := lo ≤ a ∧ a < hi
/-- the doughs, the bowls, the loaves -/
def bkD_ (K : g_K) (W : c_W) (lo hi t : Nat) (ρ : Nat → Nat) (h : g_P) : Prop := inR lo hi t ∧ ∃ (N F : Nat → Nat) (mc : Int32) (nk : Value), tm K t (dlist W (ρ 0) N F) mc nk h ∧ (nk = .null ∨ ∃ s, nk = .ref s ∧ s < hi ∧ h s = some (g_ob 25 [.ref t])) ∧ ∀ i, i < ρ 0 → h (F i) = some (fc ρ i) ∧ F i < hi ∧ inR lo hi (N i)
def bkB_ (K : g_K) (W : c_W) (lo hi l e : Nat) (ρ : Nat → Nat) (h : g_P) : Prop := inR lo hi l ∧ (e = c_E W ∨ inR lo hi e) ∧ e < hi ∧ ∃ (m : Int32) (B : Nat → Nat), lsT K W l e m (blist (ρ 1) B) h ∧ ∀ i, i < ρ 1 → h (B i) = some (bw ρ i) ∧ inR lo hi (B i) ∧ ∀ j, j < ρ 1 → B j = B i → j = i
def bkL_ (K : g_K) (W : c_W) (lo hi l e : Nat) (ρ : Nat → Nat) (h : g_P) : Prop := inR lo hi l ∧ (e = c_E W ∨ inR lo hi e) ∧ e < hi ∧ ∃ (m : Int32) (G : Nat → Nat), lsT K W l e m (blist (ρ 2) G) h ∧ ∀ i, i < ρ 2 → h (G i) = some (lf ρ i) ∧ inR lo hi (G i) ∧ ∀ j, j < ρ 2 → G j = G i → j = i
/-- the bakery's own cell -/
def bkO (b t lb ll : Nat) (ρ : Nat → Nat) (α : Nat → Int64) : g_C := g_ob 1 [.ref t, .ref lb, .ref ll, .int (nI (ρ 3)), .int (nI (ρ 4)), .int (nI (ρ 5)), .long (α 6), .long (α 7), .long (α 8), .long (α 9), .long (α 9 + lN 27720 * α 6)]
/-- A BAKERY at b: what of it may be written lies in [lo, hi), its fractions below hi -/
def bk (K : g_K) (W : c_W) (lo hi b : Nat) (ρ : Nat → Nat) (α : Nat → Int64) (h : g_P) : Prop :=
  k_b K ≤ lo ∧ k_b K ≤ hi ∧ inR lo hi b ∧ ∃ t lb eb ll el : Nat, h b = some (bkO b t lb ll ρ α) ∧ bkD_ K W lo hi t ρ h ∧ bkB_ K W lo hi lb eb ρ h ∧ bkL_ K W lo hi ll el ρ h ∧ lb ≠ ll ∧ (eb = el → eb = c_E W)
section
variable {K : g_K} {W : c_W} {lo hi b t l e n u : Nat} {ρ : Nat → Nat} {α : Nat → Int64} {h h' : g_P}
theorem bkD_.keep (k : bkD_ K W lo hi t ρ h) (f : ∀ q, q < hi → h' q = h q) : bkD_ K W lo hi t ρ h' := by
  obtain ⟨h1, N, F, mc, nk, h2, h3, h4⟩ := k
  refine ⟨h1, N, F, mc, nk, h2.keep (f t h1.2) fun z hz => ?_, ?_, fun i hi => ⟨(f _ (h4 i hi).2.1).trans (h4 i hi).1, (h4 i hi).2⟩⟩
  · obtain ⟨i, hi, rfl⟩ := dlist_mem hz
    exact f _ (h4 i hi).2.2.2
  · rcases h3 with h3 | ⟨s, h3, h5, h6⟩
    · exact Or.inl h3
    · exact Or.inr ⟨s, h3, h5, (f s h5).trans h6⟩
theorem bkB_.keep (k : bkB_ K W lo hi l e ρ h) (f : ∀ q, q < hi → h' q = h q) : bkB_ K W lo hi l e ρ h' := by
  obtain ⟨h1, h2, h3, m, B, h4, h5⟩ := k
  exact ⟨h1, h2, h3, m, B, h4.of (f l h1.2) (f e h3), fun i hi => ⟨(f _ (h5 i hi).2.1.2).trans (h5 i hi).1, (h5 i hi).2⟩⟩
theorem bkL_.keep (k : bkL_ K W lo hi l e ρ h) (f : ∀ q, q < hi → h' q = h q) : bkL_ K W lo hi l e ρ h' := by
  obtain ⟨h1, h2, h3, m, B, h4, h5⟩ := k
  exact ⟨h1, h2, h3, m, B, h4.of (f l h1.2) (f e h3), fun i hi => ⟨(f _ (h5 i hi).2.1.2).trans (h5 i hi).1, (h5 i hi).2⟩⟩
theorem bk.keep (k : bk K W lo hi b ρ α h) (f : ∀ q, q < hi → h' q = h q) : bk K W lo hi b ρ α h' := by
  obtain ⟨k1, k2, k3, t, lb, eb, ll, el, k4, k5, k6, k7, k8⟩ := k
  exact ⟨k1, k2, k3, t, lb, eb, ll, el, (f b k3.2).trans k4, k5.keep f, k6.keep f, k7.keep f, k8⟩
/-- reading an element of the bowls, of the loaves -/
theorem k_getB (k : bkB_ K W lo hi l e ρ h) {i : Nat} (ij : i < ρ 1) : ∃ x, h x = some (bw ρ i) ∧ x < hi ∧ g_Met K mJ4_get 2 0 0 [.ref l, .int (nI i)] h n (gA fun r h' n' => r = .ref x ∧ h' = h ∧ n' = n) gN := by
  obtain ⟨h1, h2, h3, m, B, h4, h5⟩ := k
  exact ⟨B i, (h5 i ij).1, (h5 i ij).2.1.2, k_J4_get h4 (blist_at ij) (Or.inr ⟨_, rfl⟩)⟩
theorem k_getL (k : bkL_ K W lo hi l e ρ h) {i : Nat} (ij : i < ρ 2) : ∃ x, h x = some (lf ρ i) ∧ x < hi ∧ g_Met K mJ4_get 2 0 0 [.ref l, .int (nI i)] h n (gA fun r h' n' => r = .ref x ∧ h' = h ∧ n' = n) gN := by
  obtain ⟨h1, h2, h3, m, B, h4, h5⟩ := k
  exact ⟨B i, (h5 i ij).1, (h5 i ij).2.1.2, k_J4_get h4 (blist_at ij) (Or.inr ⟨_, rfl⟩)⟩
theorem k_sizeB (k : bkB_ K W lo hi l e ρ h) : g_Met K mJ4_size 0 0 0 [.ref l] h n (gI fun r h' n' => r = nI (ρ 1) ∧ h' = h ∧ n' = n) gN := by
  obtain ⟨h1, h2, h3, m, B, h4, h5⟩ := k
  have := k_J4_size (n := n) h4
  rw [blist_len] at this
  exact this
theorem k_sizeL (k : bkL_ K W lo hi l e ρ h) : g_Met K mJ4_size 0 0 0 [.ref l] h n (gI fun r h' n' => r = nI (ρ 2) ∧ h' = h ∧ n' = n) gN := by
  obtain ⟨h1, h2, h3, m, B, h4, h5⟩ := k
  have := k_J4_size (n := n) h4
  rw [blist_len] at this
  exact this
theorem bkB_.cell (k : bkB_ K W lo hi l e ρ h) : ∃ m r : Value, h l = some (g_ob 18 [m, .ref e, r]) := by
  obtain ⟨-, -, -, m, B, h4, -⟩ := k
  exact ⟨_, _, h4.1⟩
theorem bkL_.cell (k : bkL_ K W lo hi l e ρ h) : ∃ m r : Value, h l = some (g_ob 18 [m, .ref e, r]) := by
  obtain ⟨-, -, -, m, B, h4, -⟩ := k
  exact ⟨_, _, h4.1⟩
theorem kyW (w : cOK K W) : ∃ ky : Value → Int, ∀ i, i < 128 → ky (.ref (c_i W i)) = (i : Int) := by
  classical
  refine ⟨fun v => (if z : ∃ i, i < 128 ∧ v = .ref (c_i W i) then Classical.choose z else 0 : Nat), fun i hi => ?_⟩
  have z : ∃ j, j < 128 ∧ Value.ref (c_i W i) = .ref (c_i W j) := ⟨i, hi, rfl⟩
  have e := Classical.choose_spec z
  dsimp only
  rw [dif_pos z]
  have := w.i_inj hi e.1 (by have := e.2; simpa using this)
  exact congrArg Int.ofNat this.symm
theorem kycI (w : cOK K W) (f3 : ∀ a : Nat, a < k_b K → h a = k_p K a) {i : Nat} (hi : i < 128) : kyc true h (.ref (c_i W i)) (i : Int) := ⟨c_i W i, rfl, Or.inl ⟨rfl, i, by omega, w.i f3 hi, rfl⟩⟩
theorem k_getD (w : cOK K W) (f3 : ∀ a : Nat, a < k_b K → h a = k_p K a) (k : bkD_ K W lo hi t ρ h) (h6 : ρ 0 ≤ 6) {i : Nat} (ij : i < ρ 0) : ∃ x, h x = some (fc ρ i) ∧ x < hi ∧ g_Met K mJ1_get 5 0 0 [.ref t, .ref (c_i W i)] h n (gA fun r h' n' => r = .ref x ∧ h' = h ∧ n' = n) gN := by
  obtain ⟨ky, hky⟩ := kyW w
  obtain ⟨h1, N, F, mc, nk, T, h3, h4⟩ := k
  rw [dlist_split ij] at T
  refine ⟨F i, (h4 i ij).1, (h4 i ij).2.1, k_get (b := true) (ky := ky) T (fun z hz => ?_) (fun z hz => ?_) (fun z hz => ?_) (by rw [hky i (by omega)]; exact kycI w f3 (by omega)) (Or.inr ⟨_, rfl⟩)⟩
  · rw [← dlist_split ij] at hz
    obtain ⟨j, hj, rfl⟩ := dlist_mem hz
    dsimp only
    rw [hky j (by omega)]
    exact kycI w f3 (by omega)
  · obtain ⟨j, hj, rfl⟩ := dlist_mem hz
    dsimp only
    rw [hky j (by omega), hky i (by omega)]
    omega
  · obtain ⟨j, hj, hj2, rfl⟩ := dtail_mem hz
    dsimp only
    rw [hky j (by omega), hky i (by omega)]
    omega
theorem k_hasBowl (k : bk K W lo hi b ρ α h) (w : wB u ρ) {p : Int32} : g_Met K mX2_hasBowl 1 0 0 [.ref b, .int p] h n (gI fun r h' n' => r = nB (ix p (ρ 1)) ∧ h' = h ∧ n' = n) gN := by
  have wb := w.b
  obtain ⟨k1, k2, k3, t, lb, eb, ll, el, k4, k5, k6, k7, k8⟩ := k
  obtain ⟨y1, y2, y3⟩ := k6.cell
  have hv : nB (nI 0 ≤ p ∧ p ≤ nI (ρ 1) - nI 1) = nB (ix p (ρ 1)) := nB_iff (ix_iff (by omega))
  refine g_Met.of (M := mX2_hasBowl) (L := [some (.ref b), some (.int p)]) (by decide +kernel) (Nat.le_of_ble_eq_true rfl) rfl ?_
  refine r_iload1 dX2_hasBowl_0 ?_
  refine r_iconst (v := nI 0) dX2_hasBowl_1 (by decide) ?_
  refine r_aload0 dX2_hasBowl_2 ?_
  refine f_X2_21_X2 dX2_hasBowl_3 k4 ?_
  refine r_callF (M' := mJ4_size) _ dX2_hasBowl_6 q1895 q413 q412 rfl q415 q417 q418 q416 q414 rfl (lw_all_tbl q419) q131 (by exact (⟨by decide, by decide, by decide +kernel⟩ : g_pl ⟨"java/util/List", "size", "()I"⟩ 0)) gc_J4 y3 ((k_sizeB k6)) (by omega) (Nat.le_of_ble_eq_true rfl) (by omega) (by omega) rfl (Nat.le_of_ble_eq_true rfl) rfl (kI fun r6 h6 n6 e6 => ?_) kN
  obtain ⟨q9, q8, q7⟩ := e6; have q9 := q9.symm; have q8 := q8.symm; have q7 := q7.symm; subst q9; subst q8; subst q7
  refine r_iconst (v := nI 1) dX2_hasBowl_11 (by decide) ?_
  refine r_isub dX2_hasBowl_12 rfl ?_
  refine r_callSN (M' := mX1_isBetween) _ dX2_hasBowl_13 q2151 q2152 rfl (lw_all_tbl q2153) q125 (by exact pl_X1_isBetween)  (k_isBetween1) (by omega) (Nat.le_of_ble_eq_true rfl) (by omega) (by omega) rfl (Nat.le_of_ble_eq_true rfl) rfl (kI fun r13 h13 n13 e13 => ?_) kN
  obtain ⟨q9, q8, q7⟩ := e13; have q9 := q9.symm; have q8 := q8.symm; have q7 := q7.symm; subst q9; subst q8; subst q7
  exact r_ireturn dX2_hasBowl_16 rfl (by rw [hv]; exact nB_nar) (⟨hv, rfl, rfl⟩)
theorem k_hasLoaf (k : bk K W lo hi b ρ α h) (w : wB u ρ) {p : Int32} : g_Met K mX2_hasLoaf 1 0 0 [.ref b, .int p] h n (gI fun r h' n' => r = nB (ix p (ρ 2)) ∧ h' = h ∧ n' = n) gN := by
  have wb := w.b
  obtain ⟨k1, k2, k3, t, lb, eb, ll, el, k4, k5, k6, k7, k8⟩ := k
  obtain ⟨y1, y2, y3⟩ := k7.cell
  have hv : nB (nI 0 ≤ p ∧ p ≤ nI (ρ 2) - nI 1) = nB (ix p (ρ 2)) := nB_iff (ix_iff (by omega))
  refine g_Met.of (M := mX2_hasLoaf) (L := [some (.ref b), some (.int p)]) (by decide +kernel) (Nat.le_of_ble_eq_true rfl) rfl ?_
  refine r_iload1 dX2_hasLoaf_0 ?_
  refine r_iconst (v := nI 0) dX2_hasLoaf_1 (by decide) ?_
  refine r_aload0 dX2_hasLoaf_2 ?_
  refine f_X2_25_X2 dX2_hasLoaf_3 k4 ?_
  refine r_callF (M' := mJ4_size) _ dX2_hasLoaf_6 q1895 q413 q412 rfl q415 q417 q418 q416 q414 rfl (lw_all_tbl q419) q131 (by exact (⟨by decide, by decide, by decide +kernel⟩ : g_pl ⟨"java/util/List", "size", "()I"⟩ 0)) gc_J4 y3 ((k_sizeL k7)) (by omega) (Nat.le_of_ble_eq_true rfl) (by omega) (by omega) rfl (Nat.le_of_ble_eq_true rfl) rfl (kI fun r6 h6 n6 e6 => ?_) kN
  obtain ⟨q9, q8, q7⟩ := e6; have q9 := q9.symm; have q8 := q8.symm; have q7 := q7.symm; subst q9; subst q8; subst q7
  refine r_iconst (v := nI 1) dX2_hasLoaf_11 (by decide) ?_
  refine r_isub dX2_hasLoaf_12 rfl ?_
  refine r_callSN (M' := mX1_isBetween) _ dX2_hasLoaf_13 q2151 q2152 rfl (lw_all_tbl q2153) q125 (by exact pl_X1_isBetween)  (k_isBetween1) (by omega) (Nat.le_of_ble_eq_true rfl) (by omega) (by omega) rfl (Nat.le_of_ble_eq_true rfl) rfl (kI fun r13 h13 n13 e13 => ?_) kN
  obtain ⟨q9, q8, q7⟩ := e13; have q9 := q9.symm; have q8 := q8.symm; have q7 := q7.symm; subst q9; subst q8; subst q7
  exact r_ireturn dX2_hasLoaf_16 rfl (by rw [hv]; exact nB_nar) (⟨hv, rfl, rfl⟩)
theorem k_hasDough (k : bk K W lo hi b ρ α h) (w : wB u ρ) {p : Int32} : g_Met K mX2_hasDough 1 0 0 [.ref b, .int p] h n (gI fun r h' n' => r = nB (ix p (ρ 0)) ∧ h' = h ∧ n' = n) gN := by
  have wb := w.b
  obtain ⟨k1, k2, k3, t, lb, eb, ll, el, k4, ⟨y1, N, F, mc, nk, T, y2⟩, k6, k7, k8⟩ := k
  have T1 := T.1
  obtain ⟨tt, hm, -⟩ := T1
  have hs := k_J1_size (n := n) T
  rw [dlist_len] at hs
  have hv : nB (nI 0 ≤ p ∧ p ≤ nI (ρ 0) - nI 1) = nB (ix p (ρ 0)) := nB_iff (ix_iff (by omega))
  refine g_Met.of (M := mX2_hasDough) (L := [some (.ref b), some (.int p)]) (by decide +kernel) (Nat.le_of_ble_eq_true rfl) rfl ?_
  refine r_iload1 dX2_hasDough_0 ?_
  refine r_iconst (v := nI 0) dX2_hasDough_1 (by decide) ?_
  refine r_aload0 dX2_hasDough_2 ?_
  refine f_X2_12_X2 dX2_hasDough_3 k4 ?_
  refine r_callV (M' := mJ1_size) _ dX2_hasDough_6 q2183 q403 q404 rfl (lw_all_tbl q405) q128 (by exact pl_J1_size) gc_J1 hm (hs) (by omega) (Nat.le_of_ble_eq_true rfl) (by omega) (by omega) rfl (Nat.le_of_ble_eq_true rfl) rfl (kI fun r6 h6 n6 e6 => ?_) kN
  obtain ⟨q9, q8, q7⟩ := e6; have q9 := q9.symm; have q8 := q8.symm; have q7 := q7.symm; subst q9; subst q8; subst q7
  refine r_iconst (v := nI 1) dX2_hasDough_9 (by decide) ?_
  refine r_isub dX2_hasDough_10 rfl ?_
  refine r_callSN (M' := mX1_isBetween) _ dX2_hasDough_11 q2151 q2152 rfl (lw_all_tbl q2153) q125 (by exact pl_X1_isBetween)  (k_isBetween1) (by omega) (Nat.le_of_ble_eq_true rfl) (by omega) (by omega) rfl (Nat.le_of_ble_eq_true rfl) rfl (kI fun r11 h11 n11 e11 => ?_) kN
  obtain ⟨q9, q8, q7⟩ := e11; have q9 := q9.symm; have q8 := q8.symm; have q7 := q7.symm; subst q9; subst q8; subst q7
  exact r_ireturn dX2_hasDough_14 rfl (by rw [hv]; exact nB_nar) (⟨hv, rfl, rfl⟩)
theorem k_roomFrom2 (k : bk K W lo hi b ρ α h) (w : wB u ρ) {i : Nat} (hi0 : i ≤ ρ 1) : g_Met K mX2_roomFrom 3 0 0 [.ref b, .int (nI i)] h n (gI fun r h' n' => r = nI (rmF ρ i (ρ 1 - i)) ∧ h' = h ∧ n' = n) gN := by
  have wb := w.b
  obtain ⟨k1, k2, k3, t, lb, eb, ll, el, k4, k5, k6, k7, k8⟩ := k
  obtain ⟨y1, y2, y3⟩ := k6.cell
  have loop : ∀ (g j : Nat), j + g = ρ 1 - i → g_G K mX2_roomFrom 3 0 0 (gI fun r h' n' => r = nI (rmF ρ i (ρ 1 - i)) ∧ h' = h ∧ n' = n) gN 4 [some (.ref b), some (.int (nI i)), some (.int (nI (rmF ρ i j))), some (.int (nI (i + j)))] [] h n := by
    intro g
    induction g with
    | zero =>
      intro j hj
      have : j = ρ 1 - i := by omega
      subst this
      refine r_iload3 dX2_roomFrom_4 ?_
      refine r_aload0 dX2_roomFrom_5 ?_
      refine f_X2_21_X2 dX2_roomFrom_6 k4 ?_
      refine r_callF (M' := mJ4_size) _ dX2_roomFrom_9 q1895 q413 q412 rfl q415 q417 q418 q416 q414 rfl (lw_all_tbl q419) q131 (by exact (⟨by decide, by decide, by decide +kernel⟩ : g_pl ⟨"java/util/List", "size", "()I"⟩ 0)) gc_J4 y3 ((k_sizeB k6)) (by omega) (Nat.le_of_ble_eq_true rfl) (by omega) (by omega) rfl (Nat.le_of_ble_eq_true rfl) rfl (kI fun r9 h9 n9 e9 => ?_) kN
      obtain ⟨q9, q8, q7⟩ := e9; have q9 := q9.symm; have q8 := q8.symm; have q7 := q7.symm; subst q9; subst q8; subst q7
      refine r_icmp_geN (tgt := 42) dX2_roomFrom_14 (by decide) (by omega) (by omega) (fun c14 => ?_) (fun c14 => absurd c14 (by omega))
      refine r_iload2 dX2_roomFrom_42 ?_
      exact r_ireturn dX2_roomFrom_43 rfl rfl (⟨rfl, rfl, rfl⟩)
    | succ g ih =>
      intro j hj
      obtain ⟨x, z1, z2, z3⟩ := k_getB (n := n) k6 (i := i + j) (by omega)
      have wo := w.o (k := i + j) (by omega)
      refine r_iload3 dX2_roomFrom_4 ?_
      refine r_aload0 dX2_roomFrom_5 ?_
      refine f_X2_21_X2 dX2_roomFrom_6 k4 ?_
      refine r_callF (M' := mJ4_size) _ dX2_roomFrom_9 q1895 q413 q412 rfl q415 q417 q418 q416 q414 rfl (lw_all_tbl q419) q131 (by exact (⟨by decide, by decide, by decide +kernel⟩ : g_pl ⟨"java/util/List", "size", "()I"⟩ 0)) gc_J4 y3 ((k_sizeB k6)) (by omega) (Nat.le_of_ble_eq_true rfl) (by omega) (by omega) rfl (Nat.le_of_ble_eq_true rfl) rfl (kI fun r9 h9 n9 e9 => ?_) kN
      obtain ⟨q9, q8, q7⟩ := e9; have q9 := q9.symm; have q8 := q8.symm; have q7 := q7.symm; subst q9; subst q8; subst q7
      refine r_icmp_geN (tgt := 42) dX2_roomFrom_14 (by decide) (by omega) (by omega) (fun c14 => absurd c14 (by omega)) (fun c14 => ?_)
      refine r_iload2 dX2_roomFrom_17 ?_
      refine r_aload0 dX2_roomFrom_18 ?_
      refine f_X2_21_X2 dX2_roomFrom_19 k4 ?_
      refine r_iload3 dX2_roomFrom_22 ?_
      refine r_callF (M' := mJ4_get) _ dX2_roomFrom_23 q1907 q468 q467 rfl q469 q471 q472 q470 q414 rfl (lw_all_tbl q473) q131 (by exact (⟨by decide, by decide, by decide +kernel⟩ : g_pl ⟨"java/util/List", "get", "(I)Ljava/lang/Object;"⟩ 1)) gc_J4 y3 (z3) (by omega) (Nat.le_of_ble_eq_true rfl) (by omega) (by omega) rfl (Nat.le_of_ble_eq_true rfl) rfl (kA fun r23 h23 n23 t23 e23 => ?_) kN
      obtain ⟨q9, q8, q7⟩ := e23; have q9 := q9.symm; have q8 := q8.symm; have q7 := q7.symm; subst q9; subst q8; subst q7
      refine r_checkcast dX2_roomFrom_28 gc_X7 q1647 (Or.inl rfl) z1 ?_
      refine r_callV (M' := mX7_room) _ dX2_roomFrom_31 q2525 q2526 q2527 rfl (lw_all_tbl q2528) q172 (by exact pl_X7_room) gc_X7 z1 ((k_room (by omega) z1)) (by omega) (Nat.le_of_ble_eq_true rfl) (by omega) (by omega) rfl (Nat.le_of_ble_eq_true rfl) rfl (kI fun r31 h31 n31 e31 => ?_) kN
      obtain ⟨q9, q8, q7⟩ := e31; have q9 := q9.symm; have q8 := q8.symm; have q7 := q7.symm; subst q9; subst q8; subst q7
      refine r_iadd dX2_roomFrom_34 (show _ = nI (rmF ρ i (j + 1)) by rw [nI_add]; rfl) ?_
      refine r_istore2 dX2_roomFrom_35 ?_
      refine r_iinc3 dX2_roomFrom_36 (show _ = nI (i + (j + 1)) from (ii1 _)) ?_
      refine r_goto (tgt := 4) dX2_roomFrom_39 (by decide) ?_
      exact ih (j + 1) (by omega)
  refine g_Met.of (M := mX2_roomFrom) (L := [some (.ref b), some (.int (nI i)), none, none]) (by decide +kernel) (Nat.le_of_ble_eq_true rfl) rfl ?_
  refine r_iconst (v := nI 0) dX2_roomFrom_0 (by decide) ?_
  refine r_istore2 dX2_roomFrom_1 ?_
  refine r_iload1 dX2_roomFrom_2 ?_
  refine r_istore3 dX2_roomFrom_3 ?_
  exact loop (ρ 1 - i) 0 (by omega)
end
