/-! texts: arrays of bytes, StringBuilder -/
set_option maxRecDepth 100000
section
variable {K : g_K} {M : g_M} {d bc bs : Nat} {P : g_Q} {X : g_X} {pc : Nat} {L : List (Option Value)} {st : List Value} {h : g_P} {n : Nat}
/-- an array of bytes is cloned -/
theorem r_aclone {a : Nat} {vs : List Value} {index : Nat} (hd : decode M.2.1 pc = .ok (.invokevirtual index, 3)) (hlink : Cond.methodLink M.1.cls index ⟨"[B", "clone", "()Ljava/lang/Object;"⟩ ∈ lw_all) (ho : h a = some (g_ar 4 vs)) (hf : ∀ v ∈ vs, fits .byte v = true) (h1 : 1 ≤ bc) (h2 : vs.length ≤ bs) (hd1 : 1 ≤ d) (hL : L.length = M.2.2.1) (hw : (st.map fun v => v.category).sum ≤ 8)
    (k : g_G K M d (bc - 1) (bs - vs.length) P X (pc + 3) L (.ref n :: st) (g_up h n (g_ar 4 vs)) (n + 1)) : g_G K M d bc bs P X pc L (.ref a :: st) h n := by
  intro p e R s m args below meth c H locs cells slots ls hC g1 g2 g3 g4 hR hl hs T hT Z
  have hKN := hC.2.2.2.2.2.2.2.2.1
  have hts := g_all hKN args
  have hsz : ls.size = c.maxLocals := by rw [hs.1, hL, hC.2.2.1]
  have hRT : g_RH K T.heap h n := by rw [hT]; exact hR
  have hn : T.heap.size = n := hRT.1
  have h5 : T.heap[a]? = some (g_cell (k_A K 4) vs) := hRT.2.2.1 a _ ho
  have hKT : g_KN K T := hKN.warm Z.warmed
  obtain ⟨-, kA, hkA, comp, hkind⟩ := g_isArr hKN (ai := 4) rfl vs
  obtain ⟨-, kT, hkT, compT, hkindT⟩ := g_isArr hKT (ai := 4) rfl vs
  have hB : s.vm.findClass "[B" = some (k_A K 4) := (hKN.2.1 4 .byte rfl).2
  obtain ⟨c3, cC, u1, u2, u3⟩ := Cond.castable_spec (by first | exact hts _ q591 | exact hKN.word q591 rfl args)
  cases hB.symm.trans u1
  obtain ⟨vm', X', st9⟩ := Z.cloneArray hC.1 hC.2.2.2.2.1 (hts _ hlink) (hts _ q587) (hts _ q588) (hts _ q589) (hts _ q590) h5 (fun k h => by cases h) (fun h => by cases h) hB u2 u3 (fun i v hv => by
      have hv2 : vs[i]? = some v := by simpa [g_cell] using hv
      unfold State.fitsSlot State.slotType?
      have hkT' : T.vm.classes[(g_cell (k_A K 4) vs).cls]? = some kT := hkT
      simp only [hkT', hkindT, Option.bind_eq_bind, Option.bind_some]
      exact hf v (List.mem_of_getElem? hv2))
    (g := F0 m pc ls (.ref a :: st)) rfl hsz rfl (by rw [hC.2.1]; exact hd) (by omega) (by show 2 * 0 + _ + _ ≤ _; omega) (by omega) (by show slots + vs.toArray.size ≤ _; simp; omega)
  rw [hn] at st9
  obtain ⟨t, a1, b1'⟩ := k p e R s m args below meth c _ _ (cells + 1) (slots + vs.length) ls hC g1 g2 (by omega) (by omega) (hRT.new (c := g_ar 4 vs) (H1 := ((T.setVm vm').pushCell { cls := k_A K 4, slots := vs.toArray }).heap) (by show (T.heap.push _).size = _; simp [hn]) (by show (T.heap.push _)[n]? = some (g_cell _ _); rw [← hn]; simp [g_cell]) (fun q hq => by show (T.heap.push _)[q]? = _; rw [Array.getElem?_push_lt (by omega)]; simp [hn, hq])) hl hs _ rfl X'
  exact ⟨t, st9 t a1, b1'⟩
end
/-- the bytes of a text of small signs -/
def byt (L : List Nat) : List Value := L.map fun c => .int (nI c)
theorem byt_len {L : List Nat} : (byt L).length = L.length := by simp [byt]
theorem byt_app {L L2 : List Nat} : byt (L ++ L2) = byt L ++ byt L2 := List.map_append
theorem byt_at {L : List Nat} {j c : Nat} (h : L[j]? = some c) : (byt L)[j]? = some (.int (nI c)) := by simp [byt, h]
theorem byt_rep {N : Nat} : List.replicate N (Value.int (nI 0)) = byt (List.replicate N 0) := by simp [byt]
theorem byt_set {L : List Nat} {j c : Nat} : (byt L).set j (.int (nI c)) = byt (L.set j c) := by simp [byt, List.map_set]
theorem fit_b {c : Nat} (h : c < 128) : narrow .byte (.int (nI c)) = .int (nI c) ∧ fits .byte (.int (nI c)) = true := by
  have : ∀ c, c < 128 → narrow .byte (.int (nI c)) = .int (nI c) ∧ fits .byte (.int (nI c)) = true := by decide +kernel
  exact this c h
theorem i2b_c {c : Nat} (h : c < 128) : (nI c).toInt8.toInt32 = nI c := by
  have : ∀ c, c < 128 → (nI c).toInt8.toInt32 = nI c := by decide +kernel
  exact this c h
theorem byt_fit {L : List Nat} (h : ∀ c ∈ L, c < 128) : ∀ v ∈ byt L, fits .byte v = true := fun v hv => by
  obtain ⟨c, hc, rfl⟩ := List.mem_map.mp hv
  exact (fit_b (h c hc)).2
theorem byt_cpy {L L2 : List Nat} {i j k : Nat} : cpy (byt L2) (byt L) i j k = byt (L2.take j ++ ((L.drop i).take k ++ L2.drop (j + k))) := by
  simp [cpy, byt, List.map_take, List.map_drop]
theorem shr0 (x : Int32) : x >>> (nI 0 &&& 31) = x := by
  rw [show nI 0 &&& 31 = 0 by decide]
  exact Int32.shiftRight_zero
theorem shl0 (x : Int32) : x <<< (nI 0 &&& 31) = x := by
  rw [show nI 0 &&& 31 = 0 by decide]
  exact Int32.shiftLeft_zero
/-- a StringBuilder at s: its text T, its array at e has cap places -/
def sbT (K : g_K) (s e cap : Nat) (T : List Nat) (h : g_P) : Prop :=
  (∃ ml : Int32, h s = some (g_ob 20 [.ref e, .int (nI 0), .int ml, .int (nI T.length)])) ∧ ∃ R : List Nat, h e = some (g_ar 4 (byt (T ++ R))) ∧ T.length + R.length = cap ∧ cap ≤ 150 ∧ k_b K ≤ e ∧ ∀ c ∈ T ++ R, c < 128
theorem sbT.of {K : g_K} {s e cap : Nat} {T : List Nat} {h h' : g_P} (t : sbT K s e cap T h) (e1 : h' s = h s) (e2 : h' e = h e) : sbT K s e cap T h' := by
  obtain ⟨⟨ml, t1⟩, R, t2, t3⟩ := t
  exact ⟨⟨ml, e1.trans t1⟩, R, e2.trans t2, t3⟩
section
variable {K : g_K} {W : c_W} {s e cap n : Nat} {T : List Nat} {h : g_P}
theorem k_J7_init (w0 : cOK K W) (hb : k_b K ≤ s) {v0 : Value} {c0 ml ct : Int32} (ho : h s = some (g_ob 20 [v0, .int c0, .int ml, .int (nI 0)])) : g_Met K mJ7_init 1 1 16 [.ref s, .int (nI 16)] h n (gV fun h' n' => sbT K s n 16 [] h' ∧ (∀ q : Nat, q < n → q ≠ s → h' q = h q) ∧ n' = n + 1) gN := by
  refine g_Met.facts fun f1 f2 f3 => ?_
  have sn := f2 _ _ ho
  refine g_Met.of (M := mJ7_init) (L := [some (.ref s), some (.int (nI 16))]) (by decide +kernel) (Nat.le_of_ble_eq_true rfl) rfl ?_
  refine r_aload0 dJ7_init_0 ?_
  refine r_objInit dJ7_init_1 q347 q200 q201 rfl (by omega) (Nat.le_of_ble_eq_true rfl) ?_
  refine r_getstatic dJ7_init_4 w0.2.2.2.2.1 q348 (Or.inl rfl) ?_
  refine r_if_eqN (tgt := 25) dJ7_init_7 (by decide) (by omega) (fun c7 => absurd c7 (by omega)) (fun c7 => ?_)
  refine r_aload0 dJ7_init_10 ?_
  refine r_iload1 dJ7_init_11 ?_
  refine r_newarray (ty := .byte) (16) dJ7_init_12 rfl ga_B q371 rfl (by omega) (by first | decide | (simp [componentBytes]; omega)) (by omega) (by omega) ?_
  refine p_J7_15_J8 dJ7_init_14 (by omega) (by rw [g_un (by omega)]; exact ho) ?_
  refine r_aload0 dJ7_init_17 ?_
  refine r_iconst (v := nI 0) dJ7_init_18 (by decide) ?_
  refine p_J7_22_J8 dJ7_init_19 (by omega) g_us ?_
  refine r_goto (tgt := 38) dJ7_init_22 (by decide) ?_
  exact r_return dJ7_init_38 rfl (⟨⟨⟨ml, by rw [g_us]; rfl⟩, List.replicate 16 0, by rw [g_un (by omega), g_un (by omega), g_us]; exact congrArg (fun l => some (g_ar 4 l)) byt_rep, rfl, by decide, f1, fun c hc => by simp at hc; omega⟩, fun q h1 h2 => by rw [g_un h2, g_un h2, g_un (by omega)], rfl⟩)
theorem k_J8_init (w0 : cOK K W) (hb : k_b K ≤ s) {v0 : Value} {c0 ml ct : Int32} (ho : h s = some (g_ob 20 [v0, .int c0, .int ml, .int (nI 0)])) : g_Met K mJ8_init 2 1 16 [.ref s] h n (gV fun h' n' => sbT K s n 16 [] h' ∧ (∀ q : Nat, q < n → q ≠ s → h' q = h q) ∧ n' = n + 1) gN := by
  refine g_Met.of (M := mJ8_init) (L := [some (.ref s)]) (by decide +kernel) (Nat.le_of_ble_eq_true rfl) rfl ?_
  refine r_aload0 dJ8_init_0 ?_
  refine r_bipush (v := nI 16) dJ8_init_1 (by decide) ?_
  refine r_callI (M' := mJ7_init) _ dJ8_init_3 q344 q345 rfl rfl rfl (lw_all_tbl q346) q134 (by exact pl_J7_init)  ((k_J7_init (ct := nI 0) w0 hb ho)) (by omega) (Nat.le_of_ble_eq_true rfl) (by omega) (by omega) rfl (Nat.le_of_ble_eq_true rfl) rfl (kV fun h3 n3 e3 => ?_) kN
  obtain ⟨z1, z2, rfl⟩ := e3
  exact r_return dJ8_init_6 rfl (⟨z1, z2, rfl⟩)
theorem k_newLength {a b c : Nat} (h1 : 1 ≤ a + max b c) (h2 : a + max b c < 1000000) : g_Met K mJ17_newLength 1 0 0 [.int (nI a), .int (nI b), .int (nI c)] h n (gI fun r h' n' => r = nI (a + max b c) ∧ h' = h ∧ n' = n) gN := by
  refine g_Met.of (M := mJ17_newLength) (L := [some (.int (nI a)), some (.int (nI b)), some (.int (nI c)), none]) (by decide +kernel) (Nat.le_of_ble_eq_true rfl) rfl ?_
  refine r_iload0 dJ17_newLength_0 ?_
  refine r_iload1 dJ17_newLength_1 ?_
  refine r_iload2 dJ17_newLength_2 ?_
  refine r_callS (M' := mJ16_max) _ dJ17_newLength_3 q575 q576 rfl (lw_all_tbl q577) q148 (by exact pl_J16_max)  ((k_max (by omega) (by omega))) (by omega) (Nat.le_of_ble_eq_true rfl) (by omega) (by omega) rfl (Nat.le_of_ble_eq_true rfl) rfl (kI fun r3 h3 n3 e3 => ?_) kN
  obtain ⟨q9, q8, q7⟩ := e3; have q9 := q9.symm; have q8 := q8.symm; have q7 := q7.symm; subst q9; subst q8; subst q7
  refine r_iadd dJ17_newLength_6 (nI_add _ _) ?_
  refine r_istore3 dJ17_newLength_7 ?_
  refine r_iconst (v := nI 0) dJ17_newLength_8 (by decide) ?_
  refine r_iload3 dJ17_newLength_9 ?_
  refine r_icmp_geN (tgt := 21) dJ17_newLength_10 (by decide) (by omega) (by omega) (fun c10 => absurd c10 (by omega)) (fun c10 => ?_)
  refine r_iload3 dJ17_newLength_13 ?_
  refine r_ldc dJ17_newLength_14 q578 ?_
  refine g_st (st' := [.int (nI 2147483639), .int (nI (a + max b c))]) rfl ?_
  refine r_icmp_gtN (tgt := 21) dJ17_newLength_16 (by decide) (by omega) (by omega) (fun c16 => absurd c16 (by omega)) (fun c16 => ?_)
  refine r_iload3 dJ17_newLength_19 ?_
  exact r_ireturn dJ17_newLength_20 rfl rfl (⟨rfl, rfl, rfl⟩)
theorem k_newCapacity {need : Nat} (t : sbT K s e cap T h) (h1 : cap < need) (h2 : need ≤ 150) : g_Met K mJ7_newCapacity 2 0 0 [.ref s, .int (nI need)] h n (gI fun r h' n' => r = nI (cap + max (need - cap) (cap + 2)) ∧ h' = h ∧ n' = n) gN := by
  obtain ⟨⟨ml, t1⟩, R, t2, t3, t4, t5, t6⟩ := t
  have hl : (byt (T ++ R)).length = cap := by rw [byt_len, List.length_append, t3]
  refine g_Met.of (M := mJ7_newCapacity) (L := [some (.ref s), some (.int (nI need)), none, none, none, none]) (by decide +kernel) (Nat.le_of_ble_eq_true rfl) rfl ?_
  refine r_aload0 dJ7_newCapacity_0 ?_
  refine f_J7_15_J8 dJ7_newCapacity_1 t1 ?_
  refine r_arraylength dJ7_newCapacity_4 ga_B t2 (by rw [hl]) ?_
  refine r_istore2 dJ7_newCapacity_5 ?_
  refine r_iload1 dJ7_newCapacity_6 ?_
  refine r_aload0 dJ7_newCapacity_7 ?_
  refine f_J7_22_J8 dJ7_newCapacity_8 t1 ?_
  refine r_ishl dJ7_newCapacity_11 (shl0 _) ?_
  refine r_istore3 dJ7_newCapacity_12 ?_
  refine r_iload3 dJ7_newCapacity_13 ?_
  refine r_iload2 dJ7_newCapacity_14 ?_
  refine r_isub dJ7_newCapacity_15 (pk_sub (by omega)) ?_
  refine r_istore4 dJ7_newCapacity_16 ?_
  refine r_iload2 dJ7_newCapacity_18 ?_
  refine r_iload4 dJ7_newCapacity_19 ?_
  refine r_iload2 dJ7_newCapacity_21 ?_
  refine r_iconst (v := nI 2) dJ7_newCapacity_22 (by decide) ?_
  refine r_aload0 dJ7_newCapacity_23 ?_
  refine f_J7_22_J8 dJ7_newCapacity_24 t1 ?_
  refine r_ishl dJ7_newCapacity_27 (shl0 _) ?_
  refine r_iadd dJ7_newCapacity_28 (nI_add _ _) ?_
  refine r_callS (M' := mJ17_newLength) _ dJ7_newCapacity_29 q572 q573 rfl (lw_all_tbl q574) q149 (by exact pl_J17_newLength)  ((k_newLength (by omega) (by omega))) (by omega) (Nat.le_of_ble_eq_true rfl) (by omega) (by omega) rfl (Nat.le_of_ble_eq_true rfl) rfl (kI fun r29 h29 n29 e29 => ?_) kN
  obtain ⟨q9, q8, q7⟩ := e29; have q9 := q9.symm; have q8 := q8.symm; have q7 := q7.symm; subst q9; subst q8; subst q7
  refine r_istore5 dJ7_newCapacity_32 ?_
  refine r_iload5 dJ7_newCapacity_34 ?_
  refine r_ldc dJ7_newCapacity_36 q582 ?_
  refine g_st (st' := [.int (nI 2147483647), .int (nI (cap + max (need - cap) (cap + 2)))]) rfl ?_
  refine r_icmp_neN (tgt := 51) dJ7_newCapacity_38 (by decide) (by omega) (by omega) (fun c38 => ?_) (fun c38 => absurd c38 (by omega))
  refine r_iload5 dJ7_newCapacity_51 ?_
  refine r_aload0 dJ7_newCapacity_53 ?_
  refine f_J7_22_J8 dJ7_newCapacity_54 t1 ?_
  refine r_ishr dJ7_newCapacity_57 (shr0 _) ?_
  exact r_ireturn dJ7_newCapacity_58 rfl rfl (⟨rfl, rfl, rfl⟩)
theorem k_copyOfB {m : Nat} {A : List Nat} (he : h e = some (g_ar 4 (byt A))) (hA : ∀ c ∈ A, c < 128) (hm : A.length < m) (hm2 : m ≤ 310) : g_Met K mJ29_copyOf 1 1 m [.ref e, .int (nI m)] h n (gA fun r h' n' => r = .ref n ∧ h' = g_up h n (g_ar 4 (byt (A ++ List.replicate (m - A.length) 0))) ∧ n' = n + 1) gN := by
  refine g_Met.facts fun f1 f2 f3 => ?_
  have en := f2 _ _ he
  refine g_Met.of (M := mJ29_copyOf) (L := [some (.ref e), some (.int (nI m)), none]) (by decide +kernel) (Nat.le_of_ble_eq_true rfl) rfl ?_
  refine r_iload1 dJ29_copyOf_0 ?_
  refine r_aload0 dJ29_copyOf_1 ?_
  refine r_arraylength dJ29_copyOf_2 ga_B he (by rw [byt_len]) ?_
  refine r_icmp_neN (tgt := 14) dJ29_copyOf_3 (by decide) (by omega) (by omega) (fun c3 => ?_) (fun c3 => absurd c3 (by omega))
  refine r_iload1 dJ29_copyOf_14 ?_
  refine r_newarray (ty := .byte) (m) dJ29_copyOf_15 rfl ga_B q371 rfl (by omega) (by first | decide | (simp [componentBytes]; omega)) (by omega) (by omega) ?_
  refine r_astore2 dJ29_copyOf_17 ?_
  refine r_aload0 dJ29_copyOf_18 ?_
  refine r_iconst (v := nI 0) dJ29_copyOf_19 (by decide) ?_
  refine r_aload2 dJ29_copyOf_20 ?_
  refine r_iconst (v := nI 0) dJ29_copyOf_21 (by decide) ?_
  refine r_aload0 dJ29_copyOf_22 ?_
  refine r_arraylength dJ29_copyOf_23 ga_B (by rw [g_un (by omega)]; exact he) (by rw [byt_len]) ?_
  refine r_iload1 dJ29_copyOf_24 ?_
  refine r_callS (M' := mJ16_min) _ dJ29_copyOf_25 q593 q594 rfl (lw_all_tbl q595) q148 (by exact pl_J16_min)  ((k_min (by omega) (by omega))) (by omega) (Nat.le_of_ble_eq_true rfl) (by omega) (by omega) rfl (Nat.le_of_ble_eq_true rfl) rfl (kI fun r25 h25 n25 e25 => ?_) kN
  obtain ⟨q9, q8, q7⟩ := e25; have q9 := q9.symm; have q8 := q8.symm; have q7 := q7.symm; subst q9; subst q8; subst q7
  refine r_acopy (ty := .byte) 0 0 (min A.length m) dJ29_copyOf_28 q596 ga_B f1 (by rw [g_un (by omega)]; exact he) g_us rfl rfl rfl (by omega) (by omega) (by omega) (by rw [byt_len]; omega) (by rw [List.length_replicate]; omega) q598 q597 q163 (by omega) rfl (Nat.le_of_ble_eq_true rfl) (fun s H comp hKN hR hcomp v hv => ?_) ?_
  · obtain ⟨c, hc, rfl⟩ := List.mem_map.mp (List.mem_of_mem_drop (List.mem_of_mem_take hv))
    exact ⟨(fit_b (hA c hc)).2, trivial⟩
  refine r_aload2 dJ29_copyOf_31 ?_
  exact r_areturn dJ29_copyOf_32 rfl (Or.inr ⟨_, rfl⟩) (Or.inr ⟨_, rfl⟩) (⟨rfl, by
      rw [g_up_up, show defaultValue .byte = Value.int (nI 0) from rfl, byt_rep, byt_cpy, Nat.min_eq_left (by omega)]
      refine congrArg (fun l => g_up h n (g_ar 4 (byt l))) ?_
      simp [List.take_of_length_le, List.drop_replicate], rfl⟩)
end
