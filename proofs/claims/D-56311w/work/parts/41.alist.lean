/-! ArrayList -/
set_option maxRecDepth 100000
/-- an ArrayList at a with the values vs: its array at e (ArrayList's own empty one, or ten places) -/
def lsT (K : g_K) (W : c_W) (a e : Nat) (m : Int32) (vs : List Value) (h : g_P) : Prop :=
  h a = some (g_ob 18 [.int m, .ref e, .int (nI vs.length)]) ∧ ∃ r : Nat, h e = some (g_ar 5 (vs ++ List.replicate r .null)) ∧ ((e = c_E W ∧ vs.length = 0 ∧ r = 0) ∨ (k_b K ≤ e ∧ e ≠ a ∧ vs.length + r = 10))
theorem lsT.of {K : g_K} {W : c_W} {a e : Nat} {m : Int32} {vs : List Value} {h h' : g_P} (l : lsT K W a e m vs h) (e1 : h' a = h a) (e2 : h' e = h e) : lsT K W a e m vs h' := by
  obtain ⟨l1, r, l2, l3⟩ := l
  exact ⟨e1.trans l1, r, e2.trans l2, l3⟩
theorem lsT.len {K : g_K} {W : c_W} {a e : Nat} {m : Int32} {vs : List Value} {h : g_P} (l : lsT K W a e m vs h) : vs.length ≤ 10 := by
  obtain ⟨-, r, -, l3⟩ := l
  omega
theorem rp_at {vs : List Value} {r i : Nat} {v : Value} (h : vs[i]? = some v) : (vs ++ List.replicate r Value.null)[i]? = some v := by
  rw [List.getElem?_append_left (List.getElem?_eq_some_iff.mp h).1]
  exact h
theorem rp_set {vs : List Value} {r : Nat} {v : Value} : (vs ++ List.replicate (r + 1) Value.null).set vs.length v = (vs ++ [v]) ++ List.replicate r .null := by
  rw [List.set_append_right _ _ (Nat.le_refl _), Nat.sub_self, List.replicate_succ, List.set_cons_zero, List.append_assoc]
  rfl
section
variable {K : g_K} {W : c_W} {a e n : Nat} {m : Int32} {vs : List Value} {h : g_P}
theorem k_J3_init {v0 v1 v2 : Value} (hb : k_b K ≤ a) (ho : h a = some (g_ob 18 [v0, v1, v2])) : g_Met K mJ3_init 2 0 0 [.ref a] h n (gV fun h' n' => h' = g_up h a (g_ob 18 [.int (nI 0), v1, v2]) ∧ n' = n) gN := by
  refine g_Met.of (M := mJ3_init) (L := [some (.ref a)]) (by decide +kernel) (Nat.le_of_ble_eq_true rfl) rfl ?_
  refine r_aload0 dJ3_init_0 ?_
  refine r_callI (M' := mJ2_init) _ dJ3_init_1 q250 q251 rfl rfl rfl (lw_all_tbl q252) q129 (by exact pl_J2_init)  (k_J2_init) (by omega) (Nat.le_of_ble_eq_true rfl) (by omega) (by omega) rfl (Nat.le_of_ble_eq_true rfl) rfl (kV fun h1 n1 e1 => ?_) kN
  obtain ⟨rfl, rfl, rfl⟩ := e1
  refine r_aload0 dJ3_init_4 ?_
  refine r_iconst (v := nI 0) dJ3_init_5 (by decide) ?_
  refine p_J3_7_J4 dJ3_init_6 (by omega) (by first | assumption | exact g_us | (rw [g_un (by omega)]; assumption) | (rw [g_un (by omega)]; exact g_us) | (rw [g_un (by omega), g_un (by omega)]; assumption) | (rw [g_un (by omega), g_un (by omega)]; exact g_us) | (rw [g_un (by omega), g_un (by omega), g_un (by omega)]; assumption) | ((repeat (rw [g_un (by omega)])); first | exact g_us | assumption)) ?_
  exact r_return dJ3_init_9 rfl (⟨rfl, rfl⟩)
theorem k_J3_initL {v0 v1 v2 v3 : Value} (hb : k_b K ≤ a) (ho : h a = some (g_ob 19 [v0, v1, v2, v3])) : g_Met K mJ3_init 2 0 0 [.ref a] h n (gV fun h' n' => h' = g_up h a (g_ob 19 [.int (nI 0), v1, v2, v3]) ∧ n' = n) gN := by
  refine g_Met.of (M := mJ3_init) (L := [some (.ref a)]) (by decide +kernel) (Nat.le_of_ble_eq_true rfl) rfl ?_
  refine r_aload0 dJ3_init_0 ?_
  refine r_callI (M' := mJ2_init) _ dJ3_init_1 q250 q251 rfl rfl rfl (lw_all_tbl q252) q129 (by exact pl_J2_init)  (k_J2_init) (by omega) (Nat.le_of_ble_eq_true rfl) (by omega) (by omega) rfl (Nat.le_of_ble_eq_true rfl) rfl (kV fun h1 n1 e1 => ?_) kN
  obtain ⟨rfl, rfl, rfl⟩ := e1
  refine r_aload0 dJ3_init_4 ?_
  refine r_iconst (v := nI 0) dJ3_init_5 (by decide) ?_
  refine p_J3_7_J6 dJ3_init_6 (by omega) (by first | assumption | exact g_us | (rw [g_un (by omega)]; assumption) | (rw [g_un (by omega)]; exact g_us) | (rw [g_un (by omega), g_un (by omega)]; assumption) | (rw [g_un (by omega), g_un (by omega)]; exact g_us) | (rw [g_un (by omega), g_un (by omega), g_un (by omega)]; assumption) | ((repeat (rw [g_un (by omega)])); first | exact g_us | assumption)) ?_
  exact r_return dJ3_init_9 rfl (⟨rfl, rfl⟩)
theorem k_J4_init {v0 v1 : Value} (w : cOK K W) (hb : k_b K ≤ a) (ho : h a = some (g_ob 18 [v0, v1, .int (nI 0)])) : g_Met K mJ4_init 3 0 0 [.ref a] h n (gV fun h' n' => lsT K W a (c_E W) (nI 0) [] h' ∧ (∀ q : Nat, q ≠ a → h' q = h q) ∧ n' = n) gN := by
  refine g_Met.facts fun f1 f2 f3 => ?_
  have hE := w.E f3
  have hEa : c_E W ≠ a := by have := w.1.2.1; omega
  refine g_Met.of (M := mJ4_init) (L := [some (.ref a)]) (by decide +kernel) (Nat.le_of_ble_eq_true rfl) rfl ?_
  refine r_aload0 dJ4_init_0 ?_
  refine r_callI (M' := mJ3_init) _ dJ4_init_1 q247 q248 rfl rfl rfl (lw_all_tbl q249) q130 (by exact pl_J3_init)  ((k_J3_init hb ho)) (by omega) (Nat.le_of_ble_eq_true rfl) (by omega) (by omega) rfl (Nat.le_of_ble_eq_true rfl) rfl (kV fun h1 n1 e1 => ?_) kN
  obtain ⟨rfl, rfl⟩ := e1
  refine r_aload0 dJ4_init_4 ?_
  refine r_getstatic dJ4_init_5 w.1.1 q254 (Or.inl rfl) ?_
  refine p_J4_9_J4 dJ4_init_8 (by omega) g_us ?_
  exact r_return dJ4_init_11 rfl (⟨⟨g_us, 0, by rw [g_un hEa, g_un hEa]; exact hE, Or.inl ⟨rfl, rfl, rfl⟩⟩, fun q hq => by rw [g_un hq, g_un hq], rfl⟩)
theorem k_J4_size (l : lsT K W a e m vs h) : g_Met K mJ4_size 0 0 0 [.ref a] h n (gI fun r h' n' => r = nI vs.length ∧ h' = h ∧ n' = n) gN := by
  obtain ⟨l1, r, l2, l3⟩ := l
  refine g_Met.of (M := mJ4_size) (L := [some (.ref a)]) (by decide +kernel) (Nat.le_of_ble_eq_true rfl) rfl ?_
  refine r_aload0 dJ4_size_0 ?_
  refine f_J4_48_J4 dJ4_size_1 (by first | assumption | exact g_us | (rw [g_un (by omega)]; assumption) | (rw [g_un (by omega)]; exact g_us) | (rw [g_un (by omega), g_un (by omega)]; assumption) | (rw [g_un (by omega), g_un (by omega)]; exact g_us) | (rw [g_un (by omega), g_un (by omega), g_un (by omega)]; assumption) | ((repeat (rw [g_un (by omega)])); first | exact g_us | assumption)) ?_
  exact r_ireturn dJ4_size_4 rfl rfl (⟨rfl, rfl, rfl⟩)
theorem k_J4_isEmpty (l : lsT K W a e m vs h) : g_Met K mJ4_isEmpty 0 0 0 [.ref a] h n (gI fun r h' n' => r = nB (vs.length = 0) ∧ h' = h ∧ n' = n) gN := by
  have hl := l.len
  obtain ⟨l1, r, l2, l3⟩ := l
  refine g_Met.of (M := mJ4_isEmpty) (L := [some (.ref a)]) (by decide +kernel) (Nat.le_of_ble_eq_true rfl) rfl ?_
  refine r_aload0 dJ4_isEmpty_0 ?_
  refine f_J4_48_J4 dJ4_isEmpty_1 (by first | assumption | exact g_us | (rw [g_un (by omega)]; assumption) | (rw [g_un (by omega)]; exact g_us) | (rw [g_un (by omega), g_un (by omega)]; assumption) | (rw [g_un (by omega), g_un (by omega)]; exact g_us) | (rw [g_un (by omega), g_un (by omega), g_un (by omega)]; assumption) | ((repeat (rw [g_un (by omega)])); first | exact g_us | assumption)) ?_
  refine r_if_neN (tgt := 11) dJ4_isEmpty_4 (by decide) (by omega) (fun c4 => ?_) (fun c4 => ?_)
  · refine r_iconst (v := nI 0) dJ4_isEmpty_11 (by decide) ?_
    exact r_ireturn dJ4_isEmpty_12 rfl rfl (⟨nB_f c4, rfl, rfl⟩)
  · refine r_iconst (v := nI 1) dJ4_isEmpty_7 (by decide) ?_
    refine r_goto (tgt := 12) dJ4_isEmpty_8 (by decide) ?_
    exact r_ireturn dJ4_isEmpty_12 rfl rfl (⟨nB_t c4, rfl, rfl⟩)
theorem k_J4_elementData (l : lsT K W a e m vs h) {i : Nat} {v : Value} (hv : vs[i]? = some v) (hr : v = .null ∨ ∃ x, v = .ref x) : g_Met K mJ4_elementData 0 0 0 [.ref a, .int (nI i)] h n (gA fun r h' n' => r = v ∧ h' = h ∧ n' = n) gN := by
  have hl := l.len
  have hi := (List.getElem?_eq_some_iff.mp hv).1
  obtain ⟨l1, r, l2, l3⟩ := l
  refine g_Met.of (M := mJ4_elementData) (L := [some (.ref a), some (.int (nI i))]) (by decide +kernel) (Nat.le_of_ble_eq_true rfl) rfl ?_
  refine r_aload0 dJ4_elementData_0 ?_
  refine f_J4_9_J4 dJ4_elementData_1 (by first | assumption | exact g_us | (rw [g_un (by omega)]; assumption) | (rw [g_un (by omega)]; exact g_us) | (rw [g_un (by omega), g_un (by omega)]; assumption) | (rw [g_un (by omega), g_un (by omega)]; exact g_us) | (rw [g_un (by omega), g_un (by omega), g_un (by omega)]; assumption) | ((repeat (rw [g_un (by omega)])); first | exact g_us | assumption)) ?_
  refine r_iload1 dJ4_elementData_4 ?_
  refine r_aaload (i) dJ4_elementData_5 ga_O rfl (by first | assumption | exact g_us | (rw [g_un (by omega)]; assumption) | (rw [g_un (by omega)]; exact g_us) | (rw [g_un (by omega), g_un (by omega)]; assumption) | (rw [g_un (by omega), g_un (by omega)]; exact g_us) | (rw [g_un (by omega), g_un (by omega), g_un (by omega)]; assumption) | ((repeat (rw [g_un (by omega)])); first | exact g_us | assumption)) rfl (by omega) (rp_at hv) ?_
  exact r_areturn dJ4_elementData_6 rfl (Or.inl ⟨_, rfl⟩) hr (⟨rfl, rfl, rfl⟩)
theorem k_J4_get (l : lsT K W a e m vs h) {i : Nat} {v : Value} (hv : vs[i]? = some v) (hr : v = .null ∨ ∃ x, v = .ref x) : g_Met K mJ4_get 2 0 0 [.ref a, .int (nI i)] h n (gA fun r h' n' => r = v ∧ h' = h ∧ n' = n) gN := by
  have hl := l.len
  have hi := (List.getElem?_eq_some_iff.mp hv).1
  have l0 := l
  obtain ⟨l1, r, l2, l3⟩ := l
  refine g_Met.of (M := mJ4_get) (L := [some (.ref a), some (.int (nI i))]) (by decide +kernel) (Nat.le_of_ble_eq_true rfl) rfl ?_
  refine r_iload1 dJ4_get_0 ?_
  refine r_aload0 dJ4_get_1 ?_
  refine f_J4_48_J4 dJ4_get_2 (by first | assumption | exact g_us | (rw [g_un (by omega)]; assumption) | (rw [g_un (by omega)]; exact g_us) | (rw [g_un (by omega), g_un (by omega)]; assumption) | (rw [g_un (by omega), g_un (by omega)]; exact g_us) | (rw [g_un (by omega), g_un (by omega), g_un (by omega)]; assumption) | ((repeat (rw [g_un (by omega)])); first | exact g_us | assumption)) ?_
  refine r_callS (M' := mJ22_checkIndex) _ dJ4_get_5 q474 q475 rfl (lw_all_tbl q476) q155 (by exact pl_J22_checkIndex)  ((k_checkIndex hi (by omega))) (by omega) (Nat.le_of_ble_eq_true rfl) (by omega) (by omega) rfl (Nat.le_of_ble_eq_true rfl) rfl (kI fun r5 h5 n5 e5 => ?_) kN
  obtain ⟨rfl, rfl, rfl⟩ := e5
  refine r_pop dJ4_get_8 ?_
  refine r_aload0 dJ4_get_9 ?_
  refine r_iload1 dJ4_get_10 ?_
  refine r_callV (M' := mJ4_elementData) _ dJ4_get_11 q480 q481 q482 rfl (lw_all_tbl q483) q131 (by exact pl_J4_elementData) gc_J4 (by first | assumption | exact g_us | (rw [g_un (by omega)]; assumption) | (rw [g_un (by omega)]; exact g_us) | (rw [g_un (by omega), g_un (by omega)]; assumption) | (rw [g_un (by omega), g_un (by omega)]; exact g_us) | (rw [g_un (by omega), g_un (by omega), g_un (by omega)]; assumption) | ((repeat (rw [g_un (by omega)])); first | exact g_us | assumption)) ((k_J4_elementData l0 hv hr)) (by omega) (Nat.le_of_ble_eq_true rfl) (by omega) (by omega) rfl (Nat.le_of_ble_eq_true rfl) rfl (kA fun r11 h11 n11 t11 e11 => ?_) kN
  obtain ⟨rfl, rfl, rfl⟩ := e11
  exact r_areturn dJ4_get_14 rfl (Or.inl ⟨_, rfl⟩) hr (⟨rfl, rfl, rfl⟩)
theorem k_J4_grow_2 (w : cOK K W) (hb : k_b K ≤ a) (l : lsT K W a (c_E W) m [] h) : g_Met K mJ4_grow_2 1 1 10 [.ref a, .int (nI 1)] h n (gA fun r h' n' => r = .ref n ∧ h' = g_up (g_up h n (g_ar 5 (List.replicate 10 .null))) a (g_ob 18 [.int m, .ref n, .int (nI 0)]) ∧ n' = n + 1) gN := by
  refine g_Met.facts fun f1 f2 f3 => ?_
  have hE := w.E f3
  obtain ⟨l1, r, l2, l3⟩ := l
  have hn := f2 _ _ l1
  refine g_Met.of (M := mJ4_grow_2) (L := [some (.ref a), some (.int (nI 1)), none, none]) (by decide +kernel) (Nat.le_of_ble_eq_true rfl) rfl ?_
  refine r_aload0 dJ4_grow_2_0 ?_
  refine f_J4_9_J4 dJ4_grow_2_1 (by first | assumption | exact g_us | (rw [g_un (by omega)]; assumption) | (rw [g_un (by omega)]; exact g_us) | (rw [g_un (by omega), g_un (by omega)]; assumption) | (rw [g_un (by omega), g_un (by omega)]; exact g_us) | (rw [g_un (by omega), g_un (by omega), g_un (by omega)]; assumption) | ((repeat (rw [g_un (by omega)])); first | exact g_us | assumption)) ?_
  refine r_arraylength dJ4_grow_2_4 ga_O hE (show _ = nI 0 by rfl) ?_
  refine r_istore2 dJ4_grow_2_5 ?_
  refine r_iload2 dJ4_grow_2_6 ?_
  refine r_if_gtN (tgt := 20) dJ4_grow_2_7 (by decide) (by omega) (fun c7 => absurd c7 (by omega)) (fun c7 => ?_)
  refine r_aload0 dJ4_grow_2_10 ?_
  refine f_J4_9_J4 dJ4_grow_2_11 (by first | assumption | exact g_us | (rw [g_un (by omega)]; assumption) | (rw [g_un (by omega)]; exact g_us) | (rw [g_un (by omega), g_un (by omega)]; assumption) | (rw [g_un (by omega), g_un (by omega)]; exact g_us) | (rw [g_un (by omega), g_un (by omega), g_un (by omega)]; assumption) | ((repeat (rw [g_un (by omega)])); first | exact g_us | assumption)) ?_
  refine r_getstatic dJ4_grow_2_14 w.1.1 q254 (Or.inl rfl) ?_
  refine r_acmp_eq (tgt := 45) dJ4_grow_2_17 (by decide) (fun c17 => ?_) (fun c17 => absurd (rfl) c17)
  refine r_aload0 dJ4_grow_2_45 ?_
  refine r_bipush (v := nI 10) dJ4_grow_2_46 (by decide) ?_
  refine r_iload1 dJ4_grow_2_48 ?_
  refine r_callS (M' := mJ16_max) _ dJ4_grow_2_49 q2255 q576 rfl (lw_all_tbl q577) q148 (by exact pl_J16_max)  ((k_max (x := 10) (y := 1) (by omega) (by omega))) (by omega) (Nat.le_of_ble_eq_true rfl) (by omega) (by omega) rfl (Nat.le_of_ble_eq_true rfl) rfl (kI fun r49 h49 n49 e49 => ?_) kN
  obtain ⟨rfl, rfl, rfl⟩ := e49
  refine r_anewarray (10) dJ4_grow_2_52 ga_O q2256 q871 rfl (by omega) (by omega) (by omega) (by omega) ?_
  refine r_dup_x1 dJ4_grow_2_55 ?_
  refine p_J4_9_J4 dJ4_grow_2_56 (by omega) (by rw [g_un (by omega)]; exact l1) ?_
  exact r_areturn dJ4_grow_2_59 rfl (Or.inr ⟨_, rfl⟩) (Or.inr ⟨_, rfl⟩) (⟨rfl, rfl, rfl⟩)
theorem k_J4_grow (w : cOK K W) (hb : k_b K ≤ a) (l : lsT K W a (c_E W) m [] h) : g_Met K mJ4_grow 2 1 10 [.ref a] h n (gA fun r h' n' => r = .ref n ∧ h' = g_up (g_up h n (g_ar 5 (List.replicate 10 .null))) a (g_ob 18 [.int m, .ref n, .int (nI 0)]) ∧ n' = n + 1) gN := by
  have l0 := l
  obtain ⟨l1, r, l2, l3⟩ := l
  refine g_Met.of (M := mJ4_grow) (L := [some (.ref a)]) (by decide +kernel) (Nat.le_of_ble_eq_true rfl) rfl ?_
  refine r_aload0 dJ4_grow_0 ?_
  refine r_aload0 dJ4_grow_1 ?_
  refine f_J4_48_J4 dJ4_grow_2 (by first | assumption | exact g_us | (rw [g_un (by omega)]; assumption) | (rw [g_un (by omega)]; exact g_us) | (rw [g_un (by omega), g_un (by omega)]; assumption) | (rw [g_un (by omega), g_un (by omega)]; exact g_us) | (rw [g_un (by omega), g_un (by omega), g_un (by omega)]; assumption) | ((repeat (rw [g_un (by omega)])); first | exact g_us | assumption)) ?_
  refine r_iconst (v := nI 1) dJ4_grow_5 (by decide) ?_
  refine r_iadd dJ4_grow_6 (by first | exact nI_add _ _ | rfl) ?_
  refine r_callV (M' := mJ4_grow_2) _ dJ4_grow_7 q2249 q2251 qs34 rfl (lw_all_tbl q2252) q131 (by exact pl_J4_grow_2) gc_J4 (by first | assumption | exact g_us | (rw [g_un (by omega)]; assumption) | (rw [g_un (by omega)]; exact g_us) | (rw [g_un (by omega), g_un (by omega)]; assumption) | (rw [g_un (by omega), g_un (by omega)]; exact g_us) | (rw [g_un (by omega), g_un (by omega), g_un (by omega)]; assumption) | ((repeat (rw [g_un (by omega)])); first | exact g_us | assumption)) ((k_J4_grow_2 w hb l0)) (by omega) (Nat.le_of_ble_eq_true rfl) (by omega) (by omega) rfl (Nat.le_of_ble_eq_true rfl) rfl (kA fun r7 h7 n7 t7 e7 => ?_) kN
  obtain ⟨rfl, rfl, rfl⟩ := e7
  exact r_areturn dJ4_grow_10 rfl (Or.inr ⟨_, rfl⟩) (Or.inr ⟨_, rfl⟩) (⟨rfl, rfl, rfl⟩)
theorem k_J4_add_2 (w : cOK K W) (hb : k_b K ≤ a) (l : lsT K W a e m vs h) (hl : vs.length < 10) {x ci N : Nat} {C : String} {T0 : u_T} {fs : List Value} (hcc : g_CL[ci]? = some (C, T0, N)) (hcast : Cond.castable C "java/lang/Object" ∈ lw_tbl) (ho : h x = some (g_ob ci fs)) (hxa : x ≠ a) : g_Met K mJ4_add_2 3 1 10 [.ref a, .ref x, .ref e, .int (nI vs.length)] h n (gV fun h' n' => ∃ e' : Nat, lsT K W a e' m (vs ++ [.ref x]) h' ∧ (e' = e ∨ e' = n) ∧ (k_b K ≤ e' ∧ e' < n') ∧ (∀ q : Nat, q < n → q ≠ a → q ≠ e' → h' q = h q) ∧ n ≤ n' ∧ n' ≤ n + 1 ∧ (∀ q : Nat, n' ≤ q → h' q = h q)) gN := by
  refine g_Met.facts fun f1 f2 f3 => ?_
  have l0 := l
  obtain ⟨l1, r, l2, l3⟩ := l
  have hn := f2 _ _ l1
  have hx := f2 _ _ ho
  have he := f2 _ _ l2
  refine g_Met.of (M := mJ4_add_2) (L := [some (.ref a), some (.ref x), some (.ref e), some (.int (nI vs.length))]) (by decide +kernel) (Nat.le_of_ble_eq_true rfl) rfl ?_
  rcases l3 with ⟨rfl, q1, rfl⟩ | ⟨q1, q2, q3⟩
  · have hv : vs = [] := List.length_eq_zero_iff.mp q1
    subst hv
    refine r_iload3 dJ4_add_2_0 ?_
    refine r_aload2 dJ4_add_2_1 ?_
    refine r_arraylength dJ4_add_2_2 ga_O l2 (show _ = nI 0 by rfl) ?_
    refine r_icmp_neN (tgt := 11) dJ4_add_2_3 (by decide) (by decide) (by decide) (fun c3 => absurd c3 (by simp)) (fun c3 => ?_)
    refine r_aload0 dJ4_add_2_6 ?_
    refine r_callV (M' := mJ4_grow) _ dJ4_add_2_7 q2245 q2247 qs33 rfl (lw_all_tbl q2248) q131 (by exact pl_J4_grow) gc_J4 (by first | assumption | exact g_us | (rw [g_un (by omega)]; assumption) | (rw [g_un (by omega)]; exact g_us) | (rw [g_un (by omega), g_un (by omega)]; assumption) | (rw [g_un (by omega), g_un (by omega)]; exact g_us) | (rw [g_un (by omega), g_un (by omega), g_un (by omega)]; assumption) | ((repeat (rw [g_un (by omega)])); first | exact g_us | assumption)) ((k_J4_grow w hb l0)) (by omega) (Nat.le_of_ble_eq_true rfl) (by omega) (by omega) rfl (Nat.le_of_ble_eq_true rfl) rfl (kA fun r7 h7 n7 t7 e7 => ?_) kN
    obtain ⟨rfl, rfl, rfl⟩ := e7
    refine r_astore2 dJ4_add_2_10 ?_
    refine r_aload2 dJ4_add_2_11 ?_
    refine r_iload3 dJ4_add_2_12 ?_
    refine r_aload1 dJ4_add_2_13 ?_
    refine r_aastore 0 dJ4_add_2_14 ga_O hcc hcast (by omega) (by rw [g_un (by omega)]; exact g_us) (by rw [g_un hxa, g_un (by omega)]; exact ho) rfl (by omega) (by decide) ?_
    refine r_aload0 dJ4_add_2_15 ?_
    refine r_iload3 dJ4_add_2_16 ?_
    refine r_iconst (v := nI 1) dJ4_add_2_17 (by decide) ?_
    refine r_iadd dJ4_add_2_18 (by first | exact nI_add _ _ | rfl) ?_
    refine p_J4_48_J4 dJ4_add_2_19 (by omega) (by rw [g_un (by omega)]; exact g_us) ?_
    exact r_return dJ4_add_2_22 rfl (⟨n, ⟨g_us, 9, by rw [g_un (by omega)]; exact g_us, Or.inr ⟨by omega, by omega, by simp⟩⟩, Or.inr rfl, ⟨by omega, by omega⟩, fun q h1 h2 h3 => by rw [g_un h2, g_un h3, g_un h2, g_un h3], by omega, by omega, fun q h1 => by rw [g_un (by omega), g_un (by omega), g_un (by omega), g_un (by omega)]⟩)
  · obtain ⟨r, rfl⟩ : ∃ r', r = r' + 1 := ⟨r - 1, by omega⟩
    refine r_iload3 dJ4_add_2_0 ?_
    refine r_aload2 dJ4_add_2_1 ?_
    refine r_arraylength dJ4_add_2_2 ga_O l2 (show _ = nI 10 by rw [show (vs ++ List.replicate (r + 1) Value.null).length = 10 by simp; omega]) ?_
    refine r_icmp_neN (tgt := 11) dJ4_add_2_3 (by decide) (by omega) (by omega) (fun c3 => ?_) (fun c3 => absurd c3 (by omega))
    refine r_aload2 dJ4_add_2_11 ?_
    refine r_iload3 dJ4_add_2_12 ?_
    refine r_aload1 dJ4_add_2_13 ?_
    refine r_aastore vs.length dJ4_add_2_14 ga_O hcc hcast q1 l2 ho rfl (by omega) (by simp) ?_
    refine r_aload0 dJ4_add_2_15 ?_
    refine r_iload3 dJ4_add_2_16 ?_
    refine r_iconst (v := nI 1) dJ4_add_2_17 (by decide) ?_
    refine r_iadd dJ4_add_2_18 (by first | exact nI_add _ _ | rfl) ?_
    refine p_J4_48_J4 dJ4_add_2_19 (by omega) (by rw [g_un (by omega)]; exact l1) ?_
    exact r_return dJ4_add_2_22 rfl (⟨e, ⟨by rw [g_us]; simp, r, by rw [g_un q2, g_us, rp_set], Or.inr ⟨q1, q2, by simp; omega⟩⟩, Or.inl rfl, ⟨q1, he⟩, fun q h1 h2 h3 => by rw [g_un h2, g_un h3], by omega, by omega, fun q h1 => by rw [g_un (by omega), g_un (by omega)]⟩)
theorem k_J4_add (w : cOK K W) (hb : k_b K ≤ a) (l : lsT K W a e m vs h) (hl : vs.length < 10) {x ci N : Nat} {C : String} {T0 : u_T} {fs : List Value} (hcc : g_CL[ci]? = some (C, T0, N)) (hcast : Cond.castable C "java/lang/Object" ∈ lw_tbl) (ho : h x = some (g_ob ci fs)) (hxa : x ≠ a) : g_Met K mJ4_add 4 1 10 [.ref a, .ref x] h n (gI fun rr h' n' => ∃ e' : Nat, lsT K W a e' (m + nI 1) (vs ++ [.ref x]) h' ∧ (e' = e ∨ e' = n) ∧ (k_b K ≤ e' ∧ e' < n') ∧ (∀ q : Nat, q < n → q ≠ a → q ≠ e' → h' q = h q) ∧ n ≤ n' ∧ n' ≤ n + 1 ∧ (∀ q : Nat, n' ≤ q → h' q = h q)) gN := by
  refine g_Met.facts fun f1 f2 f3 => ?_
  obtain ⟨l1, r, l2, l3⟩ := l
  have he : e ≠ a := by rcases l3 with ⟨rfl, -⟩ | ⟨-, q, -⟩; have := w.1.2.1; omega; exact q
  have hn := f2 _ _ l1
  have l9 : lsT K W a e (m + nI 1) vs (g_up h a (g_ob 18 [.int (m + nI 1), .ref e, .int (nI vs.length)])) := ⟨g_us, r, by rw [g_un he]; exact l2, l3⟩
  refine g_Met.of (M := mJ4_add) (L := [some (.ref a), some (.ref x)]) (by decide +kernel) (Nat.le_of_ble_eq_true rfl) rfl ?_
  refine r_aload0 dJ4_add_0 ?_
  refine r_dup dJ4_add_1 ?_
  refine f_J4_63_J4 dJ4_add_2 (by first | assumption | exact g_us | (rw [g_un (by omega)]; assumption) | (rw [g_un (by omega)]; exact g_us) | (rw [g_un (by omega), g_un (by omega)]; assumption) | (rw [g_un (by omega), g_un (by omega)]; exact g_us) | (rw [g_un (by omega), g_un (by omega), g_un (by omega)]; assumption) | ((repeat (rw [g_un (by omega)])); first | exact g_us | assumption)) ?_
  refine r_iconst (v := nI 1) dJ4_add_5 (by decide) ?_
  refine r_iadd dJ4_add_6 rfl ?_
  refine p_J4_63_J4 dJ4_add_7 (by omega) (by first | assumption | exact g_us | (rw [g_un (by omega)]; assumption) | (rw [g_un (by omega)]; exact g_us) | (rw [g_un (by omega), g_un (by omega)]; assumption) | (rw [g_un (by omega), g_un (by omega)]; exact g_us) | (rw [g_un (by omega), g_un (by omega), g_un (by omega)]; assumption) | ((repeat (rw [g_un (by omega)])); first | exact g_us | assumption)) ?_
  refine r_aload0 dJ4_add_10 ?_
  refine r_aload1 dJ4_add_11 ?_
  refine r_aload0 dJ4_add_12 ?_
  refine f_J4_9_J4 dJ4_add_13 g_us ?_
  refine r_aload0 dJ4_add_16 ?_
  refine f_J4_48_J4 dJ4_add_17 g_us ?_
  refine r_callV (M' := mJ4_add_2) _ dJ4_add_20 q2241 q2243 qs32 rfl (lw_all_tbl q2244) q131 (by exact pl_J4_add_2) gc_J4 g_us ((k_J4_add_2 w hb l9 hl hcc hcast (by rw [g_un hxa]; exact ho) hxa)) (by omega) (Nat.le_of_ble_eq_true rfl) (by omega) (by omega) rfl (Nat.le_of_ble_eq_true rfl) rfl (kV fun h20 n20 e20 => ?_) kN
  obtain ⟨e', z1, z2, z3, z4, z5, z7, z6⟩ := e20
  refine r_iconst (v := nI 1) dJ4_add_23 (by decide) ?_
  exact r_ireturn dJ4_add_24 rfl (by first | exact nB_nar | rfl) (⟨e', z1, z2, z3, fun q h1 h2 h3 => by rw [z4 q h1 h2 h3, g_un h2], z5, z7, fun q h1 => by rw [z6 q h1, g_un (by omega)]⟩)
theorem k_J33_init {t : Nat} (hb : k_b K ≤ t) (ht : t ≠ a) {v0 v1 v2 v3 : Value} (l : lsT K W a e m vs h) (ho : h t = some (g_ob 31 [v0, v1, v2, v3])) : g_Met K mJ33_init 1 0 0 [.ref t, .ref a] h n (gV fun h' n' => h' = g_up h t (g_ob 31 [v0, .int (-1), .int m, .ref a]) ∧ n' = n) gN := by
  obtain ⟨l1, r, l2, l3⟩ := l
  refine g_Met.of (M := mJ33_init) (L := [some (.ref t), some (.ref a)]) (by decide +kernel) (Nat.le_of_ble_eq_true rfl) rfl ?_
  refine r_aload0 dJ33_init_0 ?_
  refine r_aload1 dJ33_init_1 ?_
  refine p_J33_1_J33 dJ33_init_2 (by omega) (by first | assumption | exact g_us | (rw [g_un (by omega)]; assumption) | (rw [g_un (by omega)]; exact g_us) | (rw [g_un (by omega), g_un (by omega)]; assumption) | (rw [g_un (by omega), g_un (by omega)]; exact g_us) | (rw [g_un (by omega), g_un (by omega), g_un (by omega)]; assumption) | ((repeat (rw [g_un (by omega)])); first | exact g_us | assumption)) ?_
  refine r_aload0 dJ33_init_5 ?_
  refine r_objInit dJ33_init_6 q1255 q200 q201 rfl (by omega) (Nat.le_of_ble_eq_true rfl) ?_
  refine r_aload0 dJ33_init_9 ?_
  refine r_iconst (v := -1) dJ33_init_10 (by decide) ?_
  refine p_J33_13_J33 dJ33_init_11 (by omega) g_us ?_
  refine r_aload0 dJ33_init_14 ?_
  refine r_aload0 dJ33_init_15 ?_
  refine f_J33_1_J33 dJ33_init_16 g_us ?_
  refine f_J33_17_J4 dJ33_init_19 (by rw [g_un (Ne.symm ht), g_un (Ne.symm ht)]; exact l1) ?_
  refine p_J33_22_J33 dJ33_init_22 (by omega) g_us ?_
  exact r_return dJ33_init_25 rfl (⟨by rw [g_up_up, g_up_up], rfl⟩)
theorem k_J4_iterator (l : lsT K W a e m vs h) : g_Met K mJ4_iterator 2 1 4 [.ref a] h n (gA fun r h' n' => r = .ref n ∧ h' = g_up h n (g_ob 31 [.int (nI 0), .int (-1), .int m, .ref a]) ∧ n' = n + 1) gN := by
  refine g_Met.facts fun f1 f2 f3 => ?_
  have hn := f2 _ _ l.1
  have he : e < n := by obtain ⟨-, r, l2, -⟩ := l; exact f2 _ _ l2
  refine g_Met.of (M := mJ4_iterator) (L := [some (.ref a)]) (by decide +kernel) (Nat.le_of_ble_eq_true rfl) rfl ?_
  refine n_J4_267 dJ4_iterator_0 (by omega) (by omega) ?_
  refine r_dup dJ4_iterator_3 ?_
  refine r_aload0 dJ4_iterator_4 ?_
  refine r_callI (M' := mJ33_init) _ dJ4_iterator_5 q1252 q1253 rfl rfl rfl (lw_all_tbl q1254) q167 (by exact pl_J33_init)  ((k_J33_init (by omega) (by omega) (l.of (g_un (by omega)) (g_un (by omega))) g_us)) (by omega) (Nat.le_of_ble_eq_true rfl) (by omega) (by omega) rfl (Nat.le_of_ble_eq_true rfl) rfl (kV fun h5 n5 e5 => ?_) kN
  obtain ⟨rfl, rfl⟩ := e5
  exact r_areturn dJ4_iterator_8 rfl (Or.inl ⟨_, rfl⟩) (Or.inr ⟨_, rfl⟩) (⟨rfl, by rw [g_up_up], rfl⟩)
theorem k_J33_hasNext {t c : Nat} {v1 v2 : Value} (l : lsT K W a e m vs h) (hc : c ≤ vs.length) (ho : h t = some (g_ob 31 [.int (nI c), v1, v2, .ref a])) : g_Met K mJ33_hasNext 0 0 0 [.ref t] h n (gI fun r h' n' => r = nB (c < vs.length) ∧ h' = h ∧ n' = n) gN := by
  have hl := l.len
  obtain ⟨l1, r, l2, l3⟩ := l
  refine g_Met.of (M := mJ33_hasNext) (L := [some (.ref t)]) (by decide +kernel) (Nat.le_of_ble_eq_true rfl) rfl ?_
  refine r_aload0 dJ33_hasNext_0 ?_
  refine f_J33_25_J33 dJ33_hasNext_1 (by first | assumption | exact g_us | (rw [g_un (by omega)]; assumption) | (rw [g_un (by omega)]; exact g_us) | (rw [g_un (by omega), g_un (by omega)]; assumption) | (rw [g_un (by omega), g_un (by omega)]; exact g_us) | (rw [g_un (by omega), g_un (by omega), g_un (by omega)]; assumption) | ((repeat (rw [g_un (by omega)])); first | exact g_us | assumption)) ?_
  refine r_aload0 dJ33_hasNext_4 ?_
  refine f_J33_1_J33 dJ33_hasNext_5 (by first | assumption | exact g_us | (rw [g_un (by omega)]; assumption) | (rw [g_un (by omega)]; exact g_us) | (rw [g_un (by omega), g_un (by omega)]; assumption) | (rw [g_un (by omega), g_un (by omega)]; exact g_us) | (rw [g_un (by omega), g_un (by omega), g_un (by omega)]; assumption) | ((repeat (rw [g_un (by omega)])); first | exact g_us | assumption)) ?_
  refine f_J33_28_J4 dJ33_hasNext_8 (by first | assumption | exact g_us | (rw [g_un (by omega)]; assumption) | (rw [g_un (by omega)]; exact g_us) | (rw [g_un (by omega), g_un (by omega)]; assumption) | (rw [g_un (by omega), g_un (by omega)]; exact g_us) | (rw [g_un (by omega), g_un (by omega), g_un (by omega)]; assumption) | ((repeat (rw [g_un (by omega)])); first | exact g_us | assumption)) ?_
  refine r_icmp_eqN (tgt := 18) dJ33_hasNext_11 (by decide) (by omega) (by omega) (fun c11 => ?_) (fun c11 => ?_)
  · refine r_iconst (v := nI 0) dJ33_hasNext_18 (by decide) ?_
    exact r_ireturn dJ33_hasNext_19 rfl rfl (⟨nB_f (by omega), rfl, rfl⟩)
  · refine r_iconst (v := nI 1) dJ33_hasNext_14 (by decide) ?_
    refine r_goto (tgt := 19) dJ33_hasNext_15 (by decide) ?_
    exact r_ireturn dJ33_hasNext_19 rfl rfl (⟨nB_t (by omega), rfl, rfl⟩)
theorem k_J33_check {t : Nat} {v0 v1 : Value} (l : lsT K W a e m vs h) (ho : h t = some (g_ob 31 [v0, v1, .int m, .ref a])) : g_Met K mJ33_checkForComodification 0 0 0 [.ref t] h n (gV fun h' n' => h' = h ∧ n' = n) gN := by
  obtain ⟨l1, r, l2, l3⟩ := l
  refine g_Met.of (M := mJ33_checkForComodification) (L := [some (.ref t)]) (by decide +kernel) (Nat.le_of_ble_eq_true rfl) rfl ?_
  refine r_aload0 dJ33_checkForComodification_0 ?_
  refine f_J33_1_J33 dJ33_checkForComodification_1 (by first | assumption | exact g_us | (rw [g_un (by omega)]; assumption) | (rw [g_un (by omega)]; exact g_us) | (rw [g_un (by omega), g_un (by omega)]; assumption) | (rw [g_un (by omega), g_un (by omega)]; exact g_us) | (rw [g_un (by omega), g_un (by omega), g_un (by omega)]; assumption) | ((repeat (rw [g_un (by omega)])); first | exact g_us | assumption)) ?_
  refine f_J33_17_J4 dJ33_checkForComodification_4 (by first | assumption | exact g_us | (rw [g_un (by omega)]; assumption) | (rw [g_un (by omega)]; exact g_us) | (rw [g_un (by omega), g_un (by omega)]; assumption) | (rw [g_un (by omega), g_un (by omega)]; exact g_us) | (rw [g_un (by omega), g_un (by omega), g_un (by omega)]; assumption) | ((repeat (rw [g_un (by omega)])); first | exact g_us | assumption)) ?_
  refine r_aload0 dJ33_checkForComodification_7 ?_
  refine f_J33_22_J33 dJ33_checkForComodification_8 (by first | assumption | exact g_us | (rw [g_un (by omega)]; assumption) | (rw [g_un (by omega)]; exact g_us) | (rw [g_un (by omega), g_un (by omega)]; assumption) | (rw [g_un (by omega), g_un (by omega)]; exact g_us) | (rw [g_un (by omega), g_un (by omega), g_un (by omega)]; assumption) | ((repeat (rw [g_un (by omega)])); first | exact g_us | assumption)) ?_
  refine r_icmp_eq (tgt := 22) dJ33_checkForComodification_11 (by decide) (fun c11 => ?_) (fun c11 => absurd (rfl) c11)
  exact r_return dJ33_checkForComodification_22 rfl (⟨rfl, rfl⟩)
theorem k_J33_next {t c : Nat} {v1 v : Value} (hb : k_b K ≤ t) (ht : t ≠ a) (l : lsT K W a e m vs h) (hte : t ≠ e) (hv : vs[c]? = some v) (hr : v = .null ∨ ∃ x, v = .ref x) (ho : h t = some (g_ob 31 [.int (nI c), v1, .int m, .ref a])) : g_Met K mJ33_next 1 0 0 [.ref t] h n (gA fun r h' n' => r = v ∧ h' = g_up h t (g_ob 31 [.int (nI (c + 1)), .int (nI c), .int m, .ref a]) ∧ n' = n) gN := by
  have hl := l.len
  have hi := (List.getElem?_eq_some_iff.mp hv).1
  have l0 := l
  obtain ⟨l1, r, l2, l3⟩ := l
  refine g_Met.of (M := mJ33_next) (L := [some (.ref t), none, none]) (by decide +kernel) (Nat.le_of_ble_eq_true rfl) rfl ?_
  refine r_aload0 dJ33_next_0 ?_
  refine r_callV (M' := mJ33_checkForComodification) _ dJ33_next_1 q1510 q1511 q1512 rfl (lw_all_tbl q1515) q167 (by exact pl_J33_checkForComodification) gc_J33 (by first | assumption | exact g_us | (rw [g_un (by omega)]; assumption) | (rw [g_un (by omega)]; exact g_us) | (rw [g_un (by omega), g_un (by omega)]; assumption) | (rw [g_un (by omega), g_un (by omega)]; exact g_us) | (rw [g_un (by omega), g_un (by omega), g_un (by omega)]; assumption) | ((repeat (rw [g_un (by omega)])); first | exact g_us | assumption)) ((k_J33_check l0 ho)) (by omega) (Nat.le_of_ble_eq_true rfl) (by omega) (by omega) rfl (Nat.le_of_ble_eq_true rfl) rfl (kV fun h1 n1 e1 => ?_) kN
  obtain ⟨rfl, rfl, rfl⟩ := e1
  refine r_aload0 dJ33_next_4 ?_
  refine f_J33_25_J33 dJ33_next_5 (by first | assumption | exact g_us | (rw [g_un (by omega)]; assumption) | (rw [g_un (by omega)]; exact g_us) | (rw [g_un (by omega), g_un (by omega)]; assumption) | (rw [g_un (by omega), g_un (by omega)]; exact g_us) | (rw [g_un (by omega), g_un (by omega), g_un (by omega)]; assumption) | ((repeat (rw [g_un (by omega)])); first | exact g_us | assumption)) ?_
  refine r_istore1 dJ33_next_8 ?_
  refine r_iload1 dJ33_next_9 ?_
  refine r_aload0 dJ33_next_10 ?_
  refine f_J33_1_J33 dJ33_next_11 (by first | assumption | exact g_us | (rw [g_un (by omega)]; assumption) | (rw [g_un (by omega)]; exact g_us) | (rw [g_un (by omega), g_un (by omega)]; assumption) | (rw [g_un (by omega), g_un (by omega)]; exact g_us) | (rw [g_un (by omega), g_un (by omega), g_un (by omega)]; assumption) | ((repeat (rw [g_un (by omega)])); first | exact g_us | assumption)) ?_
  refine f_J33_28_J4 dJ33_next_14 (by first | assumption | exact g_us | (rw [g_un (by omega)]; assumption) | (rw [g_un (by omega)]; exact g_us) | (rw [g_un (by omega), g_un (by omega)]; assumption) | (rw [g_un (by omega), g_un (by omega)]; exact g_us) | (rw [g_un (by omega), g_un (by omega), g_un (by omega)]; assumption) | ((repeat (rw [g_un (by omega)])); first | exact g_us | assumption)) ?_
  refine r_icmp_ltN (tgt := 28) dJ33_next_17 (by decide) (by omega) (by omega) (fun c17 => ?_) (fun c17 => absurd c17 (by omega))
  refine r_aload0 dJ33_next_28 ?_
  refine f_J33_1_J33 dJ33_next_29 (by first | assumption | exact g_us | (rw [g_un (by omega)]; assumption) | (rw [g_un (by omega)]; exact g_us) | (rw [g_un (by omega), g_un (by omega)]; assumption) | (rw [g_un (by omega), g_un (by omega)]; exact g_us) | (rw [g_un (by omega), g_un (by omega), g_un (by omega)]; assumption) | ((repeat (rw [g_un (by omega)])); first | exact g_us | assumption)) ?_
  refine f_J33_37_J4 dJ33_next_32 (by first | assumption | exact g_us | (rw [g_un (by omega)]; assumption) | (rw [g_un (by omega)]; exact g_us) | (rw [g_un (by omega), g_un (by omega)]; assumption) | (rw [g_un (by omega), g_un (by omega)]; exact g_us) | (rw [g_un (by omega), g_un (by omega), g_un (by omega)]; assumption) | ((repeat (rw [g_un (by omega)])); first | exact g_us | assumption)) ?_
  refine r_astore2 dJ33_next_35 ?_
  refine r_iload1 dJ33_next_36 ?_
  refine r_aload2 dJ33_next_37 ?_
  refine r_arraylength dJ33_next_38 ga_O l2 (show _ = nI (vs.length + r) by rw [show (vs ++ List.replicate r Value.null).length = vs.length + r by simp]) ?_
  refine r_icmp_ltN (tgt := 50) dJ33_next_39 (by decide) (by omega) (by omega) (fun c39 => ?_) (fun c39 => absurd c39 (by omega))
  refine r_aload0 dJ33_next_50 ?_
  refine r_iload1 dJ33_next_51 ?_
  refine r_iconst (v := nI 1) dJ33_next_52 (by decide) ?_
  refine r_iadd dJ33_next_53 (by first | exact nI_add _ _ | rfl) ?_
  refine p_J33_25_J33 dJ33_next_54 (by omega) (by first | assumption | exact g_us | (rw [g_un (by omega)]; assumption) | (rw [g_un (by omega)]; exact g_us) | (rw [g_un (by omega), g_un (by omega)]; assumption) | (rw [g_un (by omega), g_un (by omega)]; exact g_us) | (rw [g_un (by omega), g_un (by omega), g_un (by omega)]; assumption) | ((repeat (rw [g_un (by omega)])); first | exact g_us | assumption)) ?_
  refine r_aload2 dJ33_next_57 ?_
  refine r_aload0 dJ33_next_58 ?_
  refine r_iload1 dJ33_next_59 ?_
  refine r_dup_x1 dJ33_next_60 ?_
  refine p_J33_13_J33 dJ33_next_61 (by omega) g_us ?_
  refine r_aaload (c) dJ33_next_64 ga_O rfl (by rw [g_un (Ne.symm hte), g_un (Ne.symm hte)]; exact l2) rfl (by omega) (rp_at hv) ?_
  exact r_areturn dJ33_next_65 rfl (Or.inl ⟨_, rfl⟩) hr (⟨rfl, by rw [g_up_up], rfl⟩)
end
