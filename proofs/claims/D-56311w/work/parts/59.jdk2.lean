/-! ArrayList.remove; the iterator of a LinkedList -/
set_option maxRecDepth 100000
theorem rm_list1 {vs : List Value} {r i : Nat} (hi : i + 1 < vs.length) : (cpy (vs ++ List.replicate r .null) (vs ++ List.replicate r .null) (i + 1) i (vs.length - 1 - i)).set (vs.length - 1) .null = vs.eraseIdx i ++ List.replicate (r + 1) .null := by
  apply List.ext_getElem?
  intro q
  have e1 : (vs.eraseIdx i).length = vs.length - 1 := by rw [List.length_eraseIdx]; simp; omega
  have e2 : (cpy (vs ++ List.replicate r .null) (vs ++ List.replicate r .null) (i + 1) i (vs.length - 1 - i)).length = vs.length + r := by simp [cpy]; omega
  rw [List.getElem?_set, e2]
  by_cases c1 : vs.length - 1 = q
  · rw [if_pos c1, if_pos (by omega), List.getElem?_append_right (by omega), e1, List.getElem?_replicate, if_pos (by omega)]
  · rw [if_neg c1, cpy_at (by simp; omega) (by simp; omega)]
    by_cases c2 : q < vs.length - 1
    · rw [show (vs.eraseIdx i ++ List.replicate (r + 1) Value.null)[q]? = (vs.eraseIdx i)[q]? from List.getElem?_append_left (by omega), List.getElem?_eraseIdx]
      by_cases c3 : q < i
      · rw [if_neg (by omega), if_pos c3, List.getElem?_append_left (by omega)]
      · rw [if_pos (by omega), if_neg c3, List.getElem?_append_left (by omega)]
        congr 1; omega
    · rw [if_neg (by omega), List.getElem?_append_right (by omega), List.getElem?_append_right (by omega), List.getElem?_replicate, List.getElem?_replicate]
      by_cases c4 : q < vs.length + r
      · rw [if_pos (by omega), if_pos (by omega)]
      · rw [if_neg (by omega), if_neg (by omega)]
theorem rm_list2 {vs : List Value} {r i : Nat} (hi : i + 1 = vs.length) : (vs ++ List.replicate r Value.null).set (vs.length - 1) .null = vs.eraseIdx i ++ List.replicate (r + 1) .null := by
  apply List.ext_getElem?
  intro q
  have e1 : (vs.eraseIdx i).length = vs.length - 1 := by rw [List.length_eraseIdx]; simp; omega
  rw [List.getElem?_set]
  by_cases c1 : vs.length - 1 = q
  · rw [if_pos c1, if_pos (by simp; omega), List.getElem?_append_right (by omega), e1, List.getElem?_replicate, if_pos (by omega)]
  · rw [if_neg c1]
    by_cases c2 : q < vs.length - 1
    · rw [List.getElem?_append_left (by omega), List.getElem?_append_left (by omega), List.getElem?_eraseIdx, if_pos (by omega)]
    · rw [List.getElem?_append_right (by omega), List.getElem?_append_right (by omega), List.getElem?_replicate, List.getElem?_replicate]
      by_cases c4 : q < vs.length + r
      · rw [if_pos (by omega), if_pos (by omega)]
      · rw [if_neg (by omega), if_neg (by omega)]
/-- what System.arraycopy asks of a reference that it copies into an Object[] -/
theorem g_takes {K : g_K} {h : g_P} {n ci N q : Nat} {C : String} {T0 : u_T} {fs : List Value} (hc : g_CL[ci]? = some (C, T0, N)) (hcast : Cond.castable C "java/lang/Object" ∈ lw_tbl) (ho : h q = some (g_ob ci fs)) (s : State) (H : Heap) (comp : ClassId) (hKN : g_KN K s) (hR : g_RH K H h n) (hcomp : ∀ D, FieldType.object "java/lang/Object" = .object D → s.vm.findClass D = some comp) : ∃ c, H[q]? = some c ∧ (∀ k, c.vm ≠ .statics k) ∧ (∃ k, s.vm.classes[c.cls]? = some k) ∧ (∃ k, s.vm.classes[comp]? = some k) ∧ s.vm.assignable c.cls comp = true := by
  obtain ⟨r, w1, -, cell, w2, w3, w4, -⟩ := hR.2.2.1 q _ ho
  have hr : r = (C, T0, N) := Option.some.inj (w1.symm.trans hc)
  subst hr
  obtain ⟨-, hfc, kC, hkC, -⟩ := hKN.1 ci _ hc
  obtain ⟨c0, t1, f1, f2, f3⟩ := Cond.castable_spec (hKN.word hcast rfl #[])
  have k3 := hcomp _ rfl
  have e5 : comp = t1 := Option.some.inj (k3.symm.trans f2)
  have e6 : c0 = (k_D K).1 ci := Option.some.inj (f1.symm.trans hfc)
  obtain ⟨kE, hkE, -⟩ := Vm.findClass_spec k3
  exact ⟨cell, w2, (fun k q => by rw [w4] at q; cases q), ⟨kC, by rw [w3]; exact hkC⟩, ⟨kE, hkE⟩, by rw [w3, e5, ← e6]; exact f3⟩
section
variable {K : g_K} {W : c_W} {a e n : Nat} {m : Int32} {vs : List Value} {h : g_P}
theorem k_fastRemove (hb : k_b K ≤ a) (l : lsT K W a e m vs h) {i : Nat} (hi : i < vs.length) (hr : ∀ v ∈ vs, ∃ (q : Nat) (fs : List Value), v = .ref q ∧ h q = some (g_ob 6 fs)) : g_Met K mJ4_fastRemove 1 0 0 [.ref a, .ref e, .int (nI i)] h n (gV fun h' n' => lsT K W a e (m + nI 1) (vs.eraseIdx i) h' ∧ (∀ q : Nat, q ≠ a → q ≠ e → h' q = h q) ∧ n' = n) gN := by
  have hl := l.len
  obtain ⟨l1, r, l2, l3⟩ := l
  have l4 : k_b K ≤ e ∧ e ≠ a ∧ vs.length + r = 10 := by rcases l3 with ⟨-, q, -⟩ | q; omega; exact q
  obtain ⟨l4, l5, l6⟩ := l4
  have e1 : (vs.eraseIdx i).length = vs.length - 1 := by rw [List.length_eraseIdx]; simp; omega
  refine g_Met.of (M := mJ4_fastRemove) (L := [some (.ref a), some (.ref e), some (.int (nI i)), none]) (by decide +kernel) (Nat.le_of_ble_eq_true rfl) rfl ?_
  by_cases c : i + 1 < vs.length
  · skip
    refine r_aload0 dJ4_fastRemove_0 ?_
    refine r_dup dJ4_fastRemove_1 ?_
    refine f_J4_63_J4 dJ4_fastRemove_2 (by first | assumption | exact g_us | (rw [g_un (by omega)]; assumption) | (rw [g_un (by omega)]; exact g_us) | (rw [g_un (by omega), g_un (by omega)]; assumption) | (rw [g_un (by omega), g_un (by omega)]; exact g_us) | (rw [g_un (by omega), g_un (by omega), g_un (by omega)]; assumption) | ((repeat (rw [g_un (by omega)])); first | exact g_us | assumption)) ?_
    refine r_iconst (v := nI 1) dJ4_fastRemove_5 (by decide) ?_
    refine r_iadd dJ4_fastRemove_6 (by first | exact nI_add _ _ | rfl) ?_
    refine p_J4_63_J4 dJ4_fastRemove_7 (by omega) (by first | assumption | exact g_us | (rw [g_un (by omega)]; assumption) | (rw [g_un (by omega)]; exact g_us) | (rw [g_un (by omega), g_un (by omega)]; assumption) | (rw [g_un (by omega), g_un (by omega)]; exact g_us) | (rw [g_un (by omega), g_un (by omega), g_un (by omega)]; assumption) | ((repeat (rw [g_un (by omega)])); first | exact g_us | assumption)) ?_
    refine r_aload0 dJ4_fastRemove_10 ?_
    refine f_J4_48_J4 dJ4_fastRemove_11 (by first | assumption | exact g_us | (rw [g_un (by omega)]; assumption) | (rw [g_un (by omega)]; exact g_us) | (rw [g_un (by omega), g_un (by omega)]; assumption) | (rw [g_un (by omega), g_un (by omega)]; exact g_us) | (rw [g_un (by omega), g_un (by omega), g_un (by omega)]; assumption) | ((repeat (rw [g_un (by omega)])); first | exact g_us | assumption)) ?_
    refine r_iconst (v := nI 1) dJ4_fastRemove_14 (by decide) ?_
    refine r_isub dJ4_fastRemove_15 (pk_sub (by omega)) ?_
    refine r_dup dJ4_fastRemove_16 ?_
    refine r_istore3 dJ4_fastRemove_17 ?_
    refine r_iload2 dJ4_fastRemove_18 ?_
    refine r_icmp_leN (tgt := 34) dJ4_fastRemove_19 (by decide) (by omega) (by omega) (fun c19 => absurd c19 (by omega)) (fun c19 => ?_)
    refine r_aload1 dJ4_fastRemove_22 ?_
    refine r_iload2 dJ4_fastRemove_23 ?_
    refine r_iconst (v := nI 1) dJ4_fastRemove_24 (by decide) ?_
    refine r_iadd dJ4_fastRemove_25 (nI_add ..) ?_
    refine r_aload1 dJ4_fastRemove_26 ?_
    refine r_iload2 dJ4_fastRemove_27 ?_
    refine r_iload3 dJ4_fastRemove_28 ?_
    refine r_iload2 dJ4_fastRemove_29 ?_
    refine r_isub dJ4_fastRemove_30 (pk_sub (by omega)) ?_
    refine r_acopy (ty := .object "java/lang/Object") (i + 1) i (vs.length - 1 - i) dJ4_fastRemove_31 q2469 ga_O l4 (by rw [g_un l5]; exact l2) (by rw [g_un l5]; exact l2) rfl rfl rfl (by omega) (by omega) (by omega) (by simp; omega) (by simp; omega) q598 q597 q163 (by omega) rfl (Nat.le_of_ble_eq_true rfl) (fun s H comp hKN hR hcomp v hv => ?_) ?_
    · have hv2 : v ∈ vs ++ List.replicate r Value.null := List.mem_of_mem_drop (List.mem_of_mem_take hv)
      rcases List.mem_append.mp hv2 with q | q
      · obtain ⟨y, fs, rfl, hy⟩ := hr v q
        exact ⟨rfl, g_takes gc_X8 q4052 (h := g_up h a _) (by rw [g_un (fun z => by rw [z, l1] at hy; simp [g_ob] at hy)]; exact hy) s H comp hKN hR hcomp⟩
      · rw [List.eq_of_mem_replicate q]; exact ⟨rfl, trivial⟩
    refine r_aload1 dJ4_fastRemove_34 ?_
    refine r_aload0 dJ4_fastRemove_35 ?_
    refine r_iload3 dJ4_fastRemove_36 ?_
    refine r_dup_x1 dJ4_fastRemove_37 ?_
    refine p_J4_48_J4 dJ4_fastRemove_38 (by omega) (by rw [g_un (Ne.symm l5), g_us]) ?_
    refine r_null dJ4_fastRemove_41 ?_
    refine r_aastoreZ (vs.length - 1) dJ4_fastRemove_42 ga_O (by omega) (by rw [g_un l5, g_us]) rfl (by omega) (by rw [cpy_len (by simp; omega) (by simp; omega)]; simp; omega) ?_
    exact r_return dJ4_fastRemove_43 rfl (⟨⟨by rw [g_un (Ne.symm l5), g_us, e1], r + 1, by rw [g_us, rm_list1 c], Or.inr ⟨l4, l5, by rw [e1]; omega⟩⟩, fun q h1 h2 => by rw [g_un h2, g_un h1, g_un h2, g_un h1], rfl⟩)
  · skip
    refine r_aload0 dJ4_fastRemove_0 ?_
    refine r_dup dJ4_fastRemove_1 ?_
    refine f_J4_63_J4 dJ4_fastRemove_2 (by first | assumption | exact g_us | (rw [g_un (by omega)]; assumption) | (rw [g_un (by omega)]; exact g_us) | (rw [g_un (by omega), g_un (by omega)]; assumption) | (rw [g_un (by omega), g_un (by omega)]; exact g_us) | (rw [g_un (by omega), g_un (by omega), g_un (by omega)]; assumption) | ((repeat (rw [g_un (by omega)])); first | exact g_us | assumption)) ?_
    refine r_iconst (v := nI 1) dJ4_fastRemove_5 (by decide) ?_
    refine r_iadd dJ4_fastRemove_6 (by first | exact nI_add _ _ | rfl) ?_
    refine p_J4_63_J4 dJ4_fastRemove_7 (by omega) (by first | assumption | exact g_us | (rw [g_un (by omega)]; assumption) | (rw [g_un (by omega)]; exact g_us) | (rw [g_un (by omega), g_un (by omega)]; assumption) | (rw [g_un (by omega), g_un (by omega)]; exact g_us) | (rw [g_un (by omega), g_un (by omega), g_un (by omega)]; assumption) | ((repeat (rw [g_un (by omega)])); first | exact g_us | assumption)) ?_
    refine r_aload0 dJ4_fastRemove_10 ?_
    refine f_J4_48_J4 dJ4_fastRemove_11 (by first | assumption | exact g_us | (rw [g_un (by omega)]; assumption) | (rw [g_un (by omega)]; exact g_us) | (rw [g_un (by omega), g_un (by omega)]; assumption) | (rw [g_un (by omega), g_un (by omega)]; exact g_us) | (rw [g_un (by omega), g_un (by omega), g_un (by omega)]; assumption) | ((repeat (rw [g_un (by omega)])); first | exact g_us | assumption)) ?_
    refine r_iconst (v := nI 1) dJ4_fastRemove_14 (by decide) ?_
    refine r_isub dJ4_fastRemove_15 (pk_sub (by omega)) ?_
    refine r_dup dJ4_fastRemove_16 ?_
    refine r_istore3 dJ4_fastRemove_17 ?_
    refine r_iload2 dJ4_fastRemove_18 ?_
    refine r_icmp_leN (tgt := 34) dJ4_fastRemove_19 (by decide) (by omega) (by omega) (fun c19 => ?_) (fun c19 => absurd c19 (by omega))
    refine r_aload1 dJ4_fastRemove_34 ?_
    refine r_aload0 dJ4_fastRemove_35 ?_
    refine r_iload3 dJ4_fastRemove_36 ?_
    refine r_dup_x1 dJ4_fastRemove_37 ?_
    refine p_J4_48_J4 dJ4_fastRemove_38 (by omega) g_us ?_
    refine r_null dJ4_fastRemove_41 ?_
    refine r_aastoreZ (vs.length - 1) dJ4_fastRemove_42 ga_O (by omega) (by rw [g_un l5, g_un l5]; exact l2) rfl (by omega) (by simp; omega) ?_
    exact r_return dJ4_fastRemove_43 rfl (⟨⟨by rw [g_un (Ne.symm l5), g_us, e1], r + 1, by rw [g_us, rm_list2 (i := i) (by omega)], Or.inr ⟨l4, l5, by rw [e1]; omega⟩⟩, fun q h1 h2 => by rw [g_un h2, g_un h1, g_un h1], rfl⟩)
theorem k_J4_remove (hb : k_b K ≤ a) (l : lsT K W a e m vs h) {i : Nat} {v : Value} (hv : vs[i]? = some v) (hr : ∀ v ∈ vs, ∃ (q : Nat) (fs : List Value), v = .ref q ∧ h q = some (g_ob 6 fs)) : g_Met K mJ4_remove 2 0 0 [.ref a, .int (nI i)] h n (gA fun rr h' n' => rr = v ∧ lsT K W a e (m + nI 1) (vs.eraseIdx i) h' ∧ (∀ q : Nat, q ≠ a → q ≠ e → h' q = h q) ∧ n' = n) gN := by
  have hl := l.len
  have hi := (List.getElem?_eq_some_iff.mp hv).1
  have l0 := l
  obtain ⟨q, fs, rfl, hq⟩ := hr v (List.mem_of_getElem? hv)
  obtain ⟨l1, r, l2, l3⟩ := l
  refine g_Met.of (M := mJ4_remove) (L := [some (.ref a), some (.int (nI i)), none, none]) (by decide +kernel) (Nat.le_of_ble_eq_true rfl) rfl ?_
  refine r_iload1 dJ4_remove_0 ?_
  refine r_aload0 dJ4_remove_1 ?_
  refine f_J4_48_J4 dJ4_remove_2 (by first | assumption | exact g_us | (rw [g_un (by omega)]; assumption) | (rw [g_un (by omega)]; exact g_us) | (rw [g_un (by omega), g_un (by omega)]; assumption) | (rw [g_un (by omega), g_un (by omega)]; exact g_us) | (rw [g_un (by omega), g_un (by omega), g_un (by omega)]; assumption) | ((repeat (rw [g_un (by omega)])); first | exact g_us | assumption)) ?_
  refine r_callS (M' := mJ22_checkIndex) _ dJ4_remove_5 q474 q475 rfl (lw_all_tbl q476) q155 (by exact pl_J22_checkIndex)  ((k_checkIndex hi (by omega))) (by omega) (Nat.le_of_ble_eq_true rfl) (by omega) (by omega) rfl (Nat.le_of_ble_eq_true rfl) rfl (kI fun r5 h5 n5 e5 => ?_) kN
  obtain ⟨q9, q8, q7⟩ := e5; have q9 := q9.symm; have q8 := q8.symm; have q7 := q7.symm; subst q9; subst q8; subst q7
  refine r_pop dJ4_remove_8 ?_
  refine r_aload0 dJ4_remove_9 ?_
  refine f_J4_9_J4 dJ4_remove_10 (by first | assumption | exact g_us | (rw [g_un (by omega)]; assumption) | (rw [g_un (by omega)]; exact g_us) | (rw [g_un (by omega), g_un (by omega)]; assumption) | (rw [g_un (by omega), g_un (by omega)]; exact g_us) | (rw [g_un (by omega), g_un (by omega), g_un (by omega)]; assumption) | ((repeat (rw [g_un (by omega)])); first | exact g_us | assumption)) ?_
  refine r_astore2 dJ4_remove_13 ?_
  refine r_aload2 dJ4_remove_14 ?_
  refine r_iload1 dJ4_remove_15 ?_
  refine r_aaload (i) dJ4_remove_16 ga_O rfl (by first | assumption | exact g_us | (rw [g_un (by omega)]; assumption) | (rw [g_un (by omega)]; exact g_us) | (rw [g_un (by omega), g_un (by omega)]; assumption) | (rw [g_un (by omega), g_un (by omega)]; exact g_us) | (rw [g_un (by omega), g_un (by omega), g_un (by omega)]; assumption) | ((repeat (rw [g_un (by omega)])); first | exact g_us | assumption)) rfl (by omega) (rp_at hv) ?_
  refine r_astore3 dJ4_remove_17 ?_
  refine r_aload0 dJ4_remove_18 ?_
  refine r_aload2 dJ4_remove_19 ?_
  refine r_iload1 dJ4_remove_20 ?_
  refine r_callV (M' := mJ4_fastRemove) _ dJ4_remove_21 q2465 q2467 qs37 rfl (lw_all_tbl q2468) q131 (by exact pl_J4_fastRemove) gc_J4 (by first | assumption | exact g_us | (rw [g_un (by omega)]; assumption) | (rw [g_un (by omega)]; exact g_us) | (rw [g_un (by omega), g_un (by omega)]; assumption) | (rw [g_un (by omega), g_un (by omega)]; exact g_us) | (rw [g_un (by omega), g_un (by omega), g_un (by omega)]; assumption) | ((repeat (rw [g_un (by omega)])); first | exact g_us | assumption)) ((k_fastRemove hb l0 hi hr)) (by omega) (Nat.le_of_ble_eq_true rfl) (by omega) (by omega) rfl (Nat.le_of_ble_eq_true rfl) rfl (kV fun h21 n21 e21 => ?_) kN
  obtain ⟨e21, e21a, rfl⟩ := e21
  refine r_aload3 dJ4_remove_24 ?_
  exact r_areturn dJ4_remove_25 rfl (Or.inl ⟨_, rfl⟩) (Or.inr ⟨_, rfl⟩) (⟨rfl, e21, e21a, rfl⟩)
end
