/-! rows that were lacking: references compared, a super's method, System.arraycopy -/
set_option maxRecDepth 100000
section
variable {K : g_K} {M : g_M} {d bc bs : Nat} {P : g_Q} {X : g_X} {pc : Nat} {L : List (Option Value)} {st : List Value} {h : g_P} {n : Nat}
theorem r_acmp_eq {a b : Nat} {off : Int} {tgt : Nat} (hd : decode M.2.1 pc = .ok (.if_acmp .eq off, 3)) (ht : (pc : Int) + off = (tgt : Int)) (kt : a = b → g_G K M d bc bs P X tgt L st h n) (kf : ¬ a = b → g_G K M d bc bs P X (pc + 3) L st h n) : g_G K M d bc bs P X pc L (.ref b :: .ref a :: st) h n :=
  g_go2 (C := a = b) (fun p e R s m args below meth c H locs cells slots ls Q hM k1 k2 => lv_acmp_eq (rx := some a) (ry := some b) hM.1 hM.2.1 hd ht (fun z => k1 (Option.some.inj z)) (fun z => k2 (fun q => z (congrArg some q)))) kt kf
theorem r_acmp_ne {a b : Nat} {off : Int} {tgt : Nat} (hd : decode M.2.1 pc = .ok (.if_acmp .ne off, 3)) (ht : (pc : Int) + off = (tgt : Int)) (kt : ¬ a = b → g_G K M d bc bs P X tgt L st h n) (kf : a = b → g_G K M d bc bs P X (pc + 3) L st h n) : g_G K M d bc bs P X pc L (.ref b :: .ref a :: st) h n :=
  g_go2 (C := ¬ a = b) (fun p e R s m args below meth c H locs cells slots ls Q hM k1 k2 => lv_acmp_ne (rx := some a) (ry := some b) hM.1 hM.2.1 hd ht (fun z => k1 (fun q => z (congrArg some q))) (fun z => k2 (fun q => q (Option.some.inj z)))) kt (fun z => kf (Classical.not_not.mp z))
theorem r_acmp_eqRZ {a : Nat} {off : Int} {tgt : Nat} (hd : decode M.2.1 pc = .ok (.if_acmp .eq off, 3)) (ht : (pc : Int) + off = (tgt : Int)) (k : g_G K M d bc bs P X (pc + 3) L st h n) : g_G K M d bc bs P X pc L (.null :: .ref a :: st) h n :=
  g_go (fun p e R s m args below meth c H locs cells slots ls Q hM hR hl k => lv_acmp_eq (rx := some a) (ry := none) hM.1 hM.2.1 hd ht (fun z => by cases z) (fun _ => k ls hl)) k
theorem r_acmp_eqZR {a : Nat} {off : Int} {tgt : Nat} (hd : decode M.2.1 pc = .ok (.if_acmp .eq off, 3)) (ht : (pc : Int) + off = (tgt : Int)) (k : g_G K M d bc bs P X (pc + 3) L st h n) : g_G K M d bc bs P X pc L (.ref a :: .null :: st) h n :=
  g_go (fun p e R s m args below meth c H locs cells slots ls Q hM hR hl k => lv_acmp_eq (rx := none) (ry := some a) hM.1 hM.2.1 hd ht (fun z => by cases z) (fun _ => k ls hl)) k
theorem r_acmp_eqZZ {off : Int} {tgt : Nat} (hd : decode M.2.1 pc = .ok (.if_acmp .eq off, 3)) (ht : (pc : Int) + off = (tgt : Int)) (k : g_G K M d bc bs P X tgt L st h n) : g_G K M d bc bs P X pc L (.null :: .null :: st) h n :=
  g_go (fun p e R s m args below meth c H locs cells slots ls Q hM hR hl k => lv_acmp_eq (rx := none) (ry := none) hM.1 hM.2.1 hd ht (fun _ => k ls hl) (fun z => absurd rfl z)) k
theorem r_acmp_neRZ {a : Nat} {off : Int} {tgt : Nat} (hd : decode M.2.1 pc = .ok (.if_acmp .ne off, 3)) (ht : (pc : Int) + off = (tgt : Int)) (k : g_G K M d bc bs P X tgt L st h n) : g_G K M d bc bs P X pc L (.null :: .ref a :: st) h n :=
  g_go (fun p e R s m args below meth c H locs cells slots ls Q hM hR hl k => lv_acmp_ne (rx := some a) (ry := none) hM.1 hM.2.1 hd ht (fun _ => k ls hl) (fun z => by cases z)) k
theorem r_acmp_neZR {a : Nat} {off : Int} {tgt : Nat} (hd : decode M.2.1 pc = .ok (.if_acmp .ne off, 3)) (ht : (pc : Int) + off = (tgt : Int)) (k : g_G K M d bc bs P X tgt L st h n) : g_G K M d bc bs P X pc L (.ref a :: .null :: st) h n :=
  g_go (fun p e R s m args below meth c H locs cells slots ls Q hM hR hl k => lv_acmp_ne (rx := none) (ry := some a) hM.1 hM.2.1 hd ht (fun _ => k ls hl) (fun z => by cases z)) k
theorem r_acmp_neZZ {off : Int} {tgt : Nat} (hd : decode M.2.1 pc = .ok (.if_acmp .ne off, 3)) (ht : (pc : Int) + off = (tgt : Int)) (k : g_G K M d bc bs P X (pc + 3) L st h n) : g_G K M d bc bs P X pc L (.null :: .null :: st) h n :=
  g_go (fun p e R s m args below meth c H locs cells slots ls Q hM hR hl k => lv_acmp_ne (rx := none) (ry := none) hM.1 hM.2.1 hd ht (fun z => absurd rfl z) (fun _ => k ls hl)) k
theorem r_callSU {st0 : List Value} {M' : g_M} {C : String} {T0 : u_T} {N ci : Nat} {fs : List Value} {index d' bc' bs' : Nat} {P' : g_Q} {X' : g_X} (As : List Value) {b : Nat} (hd : decode M.2.1 pc = .ok (.invokespecial index, 3)) (hlink : Cond.methodLink M.1.cls index M'.1 ∈ lw_all) (hsame : Cond.sameMethod M'.1.cls M'.1.cls M'.1.name M'.1.desc ∈ lw_all) (hsup : Cond.superclass M.1.cls M'.1.cls ∈ lw_all) (hin : Cond.instanceMethod M'.1 ∈ lw_all) (hno : M'.1.name ≠ "<init>") (hh : M'.2.2.2.2 = []) (hcw : g_cw M' ∈ lw_tbl) (hini : Cond.initialized M'.1.cls ∈ lw_all) (hpl : g_pl M'.1 As.length) (hcc : g_CL[ci]? = some (C, T0, N)) (ho : h b = some (g_ob ci fs))
    (hM : g_Met K M' d' bc' bs' (.ref b :: As) h n P' X') (hd1 : d' + 1 ≤ d) (hml : M'.2.2.1 ≤ 40) (hc : bc' ≤ bc) (hsl : bs' ≤ bs) (hL : L.length = M.2.2.1) (hw : (st.map fun v => v.category).sum ≤ 8) (hst : st0 = As.reverse ++ .ref b :: st)
    (kn : ∀ (v : Option Value) (h' : g_P) (n' : Nat), P' v h' n' → g_G K M d (bc - bc') (bs - bs') P X (pc + 3) L (v.toList ++ st) h' n') (kx : ∀ (q : Nat) (h' : g_P) (n' : Nat), X' q h' n' → g_GX K M d (bc - bc') (bs - bs') P X pc L h' n' q) :
    g_G K M d bc bs P X pc L st0 h n := by
  subst hst
  intro p e R s m args below meth c H locs cells slots ls hC g1 g2 g3 g4 hR hl hs T hT Z
  have hKN := hC.2.2.2.2.2.2.2.2.1
  have hts := g_all hKN args
  have hcode := hKN.word hcw (g_cwd M') args
  have hsz : ls.size = c.maxLocals := by rw [hs.1, hL, hC.2.2.1]
  obtain ⟨cellB, w1, w2, w3⟩ := g_recv hKN hR hcc ho
  obtain ⟨kB, hkB, -⟩ := Vm.findClass_spec w3
  have hK := g_back (R := R) (p := p) (e := e) (below := below) (s := s) (sargs := args) (len := 3) (W9 := 8) hM hKN hcw hini (by omega) (by omega)
  have hpre : ∀ vm₁, s.WarmedH vm₁ → g_Pre K R bc' bs' (.ref b :: As) h n ⟨T.setVm vm₁, locs, cells, slots⟩ ((.ref b :: As)).toArray := fun vm₁ _ => ⟨rfl, by show cells + bc' ≤ _; omega, by show slots + bs' ≤ _; omega, by show g_RH K T.heap h n; rw [hT]; exact hR⟩
  refine g_after (args := args) (d' := d') (av := ((.ref b :: As)).toArray) (st := st) (len := 3) hC g1 g2 g3 g4 hl hs hc hsl kn kx ?_
  exact vx_callSU Z hC.1 hC.2.2.2.2.1 (hts _ hlink) (hts _ hsame) (hts _ hsup) (hts _ hin) (g_cwC hh hcode) hno hK (by rw [hT]; exact w1) w2 hkB (g := F0 m pc ls (As.reverse ++ .ref b :: st)) rfl hsz (argsL := As) (rest := st) (fun sig he => g_pl_len hpl sig he) rfl (lv_room hw) (by rw [hC.2.1]; exact hd) hpre
theorem g_up_up {h : g_P} {a : Nat} {c c' : g_C} : g_up (g_up h a c) a c' = g_up h a c' := by
  funext q
  by_cases z : q = a
  · subst z; rw [g_us, g_us]
  · rw [g_un z, g_un z, g_un z]
theorem g_up_self {h : g_P} {a : Nat} {c : g_C} (e : h a = some c) : g_up h a c = h := by
  funext q
  by_cases z : q = a
  · subst z; rw [g_us, e]
  · rw [g_un z]
theorem g_up_comm {h : g_P} {a b : Nat} {c c' : g_C} (n : a ≠ b) : g_up (g_up h a c) b c' = g_up (g_up h b c') a c := by
  funext q
  by_cases z : q = a
  · subst z; rw [g_un n, g_us, g_us]
  · by_cases z2 : q = b
    · subst z2; rw [g_us, g_un z, g_us]
    · rw [g_un z2, g_un z, g_un z, g_un z2]
/-- k values of vs from i on, laid over ws from j on -/
def cpy (ws vs : List Value) (i j k : Nat) : List Value := ws.take j ++ ((vs.drop i).take k ++ ws.drop (j + k))
theorem cpy_len {ws vs : List Value} {i j k : Nat} (h1 : i + k ≤ vs.length) (h2 : j + k ≤ ws.length) : (cpy ws vs i j k).length = ws.length := by
  simp [cpy]; omega
theorem cpy_at {ws vs : List Value} {i j k : Nat} (h1 : i + k ≤ vs.length) (h2 : j + k ≤ ws.length) (q : Nat) : (cpy ws vs i j k)[q]? = if j ≤ q ∧ q < j + k then vs[i + (q - j)]? else ws[q]? := by
  unfold cpy
  by_cases c1 : q < j
  · rw [List.getElem?_append_left (by simp; omega), List.getElem?_take_of_lt c1, if_neg (by omega)]
  · rw [List.getElem?_append_right (by simp; omega), show (ws.take j).length = j by simp; omega]
    by_cases c2 : q < j + k
    · rw [List.getElem?_append_left (by simp; omega), List.getElem?_take_of_lt (by omega), List.getElem?_drop, if_pos ⟨by omega, c2⟩]
    · rw [List.getElem?_append_right (by simp; omega), show ((vs.drop i).take k).length = k by simp; omega, List.getElem?_drop, if_neg (by omega)]
      congr 1
      omega
theorem g_copied {cA cB : ClassId} {vs ws : List Value} {i j k : Nat} (h1 : i + k ≤ vs.length) (h2 : j + k ≤ ws.length) (b1 : i < 2147483648) (b2 : j < 2147483648) (b3 : k < 2147483648) : copied (g_cell cA vs) (g_cell cB ws) (nI i) (nI j) (nI k) = g_cell cB (cpy ws vs i j k) := by
  unfold copied
  rw [nI_clamp (n := i) (by simpa using b1), nI_clamp (n := j) (by simpa using b2), nI_clamp (n := k) (by simpa using b3)]
  have e1 : ((g_cell cA vs).stretch i k) = (vs.drop i).take k := by
    apply List.ext_getElem?
    intro q
    unfold Cell.stretch
    by_cases hq : q < k
    · rw [List.getElem?_take_of_lt hq, List.getElem?_drop]
      have : i + q < vs.length := by omega
      simp [g_cell, hq, this]
    · rw [List.getElem?_eq_none (by simp; omega), List.getElem?_eq_none (by simp; omega)]
  rw [e1]
  obtain ⟨f1, f2, f3, f4, f5⟩ := Cell.storeRun_facts (g_cell cB ws) j ((vs.drop i).take k)
  have f6 := fun q => Cell.storeRun_get (g_cell cB ws) j ((vs.drop i).take k) q (by simp [g_cell]; omega)
  generalize (g_cell cB ws).storeRun j ((vs.drop i).take k) = Z at f1 f2 f3 f4 f5 f6
  have f7 : Z.slots = (cpy ws vs i j k).toArray := by
    apply Array.ext_getElem?
    intro q
    rw [f6 q, show (cpy ws vs i j k).toArray[q]? = (cpy ws vs i j k)[q]? by simp, cpy_at h1 h2]
    have e2 : ((vs.drop i).take k).length = k := by simp; omega
    rw [e2]
    by_cases c : j ≤ q ∧ q < j + k
    · rw [if_pos c, if_pos c, List.getElem?_take_of_lt (by omega), List.getElem?_drop]
    · rw [if_neg c, if_neg c]; simp [g_cell]
  obtain ⟨z1, z2, z3, z4, z5⟩ := Z
  dsimp only at f1 f2 f4 f5 f7
  subst f7
  rw [f1, f2, f4, f5]
  rfl

theorem r_acopy {a b ai : Nat} {ty : FieldType} {vs ws : List Value} {index : Nat} {x y z : Int32} (i j k : Nat) (hd : decode M.2.1 pc = .ok (.invokestatic index, 3)) (hlink : Cond.methodLink M.1.cls index arraycopyName ∈ lw_all) (hat : g_AT[ai]? = some ty) (hb0 : k_b K ≤ b) (ho : h a = some (g_ar ai vs)) (ho2 : h b = some (g_ar ai ws)) (hx : x = nI i) (hy : y = nI j) (hz : z = nI k) (b1 : i < 2147483648) (b2 : j < 2147483648) (b3 : k < 2147483648) (hi : i + k ≤ vs.length) (hj : j + k ≤ ws.length)
    (hnat : Cond.native arraycopyName ∈ lw_all) (hsta : Cond.static arraycopyName ∈ lw_all) (hini : Cond.initialized "java/lang/System" ∈ lw_all) (hd1 : 1 ≤ d) (hL : L.length = M.2.2.1) (hw : (st.map fun v => v.category).sum ≤ 8)
    (hv : ∀ (s : State) (H : Heap) (comp : ClassId), g_KN K s → g_RH K H h n → (∀ C, ty = .object C → s.vm.findClass C = some comp) → ∀ v ∈ (vs.drop i).take k, fits ty v = true ∧ match v with | .ref q => ∃ c, H[q]? = some c ∧ (∀ k, c.vm ≠ .statics k) ∧ (∃ k, s.vm.classes[c.cls]? = some k) ∧ (∃ k, s.vm.classes[comp]? = some k) ∧ s.vm.assignable c.cls comp = true | _ => True)
    (kk : g_G K M d bc bs P X (pc + 3) L st (g_up h b (g_ar ai (cpy ws vs i j k))) n) : g_G K M d bc bs P X pc L (.int z :: .int y :: .ref b :: .int x :: .ref a :: st) h n := by
  subst hx; subst hy; subst hz
  intro p e R s m args below meth c H locs cells slots ls hC g1 g2 g3 g4 hR hl hs T hT Z
  have hKN := hC.2.2.2.2.2.2.2.2.1
  have hts := g_all hKN args
  have hsz : ls.size = c.maxLocals := by rw [hs.1, hL, hC.2.2.1]
  have h5 : T.heap[a]? = some (g_cell (k_A K ai) vs) := by rw [hT]; exact hR.2.2.1 a _ ho
  have h6 : T.heap[b]? = some (g_cell (k_A K ai) ws) := by rw [hT]; exact hR.2.2.1 b _ ho2
  obtain ⟨-, kA, hkA, comp, hkind⟩ := g_isArr hKN hat vs
  have hRT : g_RH K T.heap h n := by rw [hT]; exact hR
  have hcomp : ∀ C, ty = .object C → s.vm.findClass C = some comp := by
    intro C e9
    subst e9
    obtain ⟨kA', comp', k1, k2, k3, -⟩ := (hKN.2.1 ai _ hat).2
    have e8 : kA' = kA := Option.some.inj (k1.symm.trans hkA)
    subst e8
    have : comp' = comp := by have := k2.symm.trans hkind; cases this; rfl
    rw [← this]
    exact k3
  obtain ⟨vm', X', st9⟩ := Z.arraycopy hC.1 hC.2.2.2.2.1 (hts _ hlink) (hts _ hnat) (hts _ hsta) (hts _ hini) h5 h6 (fun k h => by cases h) (fun k h => by cases h) (fun h => by cases h) (fun h => by cases h) hkA hkA hkind hkind (by cases ty <;> simp [refKind])
    (nI_pos (by simpa using b1)) (nI_pos (by simpa using b2)) (nI_pos (by simpa using b3)) (by rw [nI_toInt (n := i) (by simpa using b1), nI_toInt (n := k) (by simpa using b3)]; simp [g_cell]; omega) (by rw [nI_toInt (n := j) (by simpa using b2), nI_toInt (n := k) (by simpa using b3)]; simp [g_cell]; omega)
    (fun vm' hA q hq => by
      rw [nI_clamp (n := k) (by simpa using b3)] at hq
      rw [nI_clamp (n := i) (by simpa using b1)]
      have hlt : i + q < vs.length := by omega
      have hg : (g_cell (k_A K ai) vs).slots.getD (i + q) .null = vs[i + q] := by simp [g_cell, hlt]
      have hmem : vs[i + q] ∈ (vs.drop i).take k := by
        rw [List.mem_iff_getElem?]
        refine ⟨q, ?_⟩
        rw [List.getElem?_take_of_lt hq, List.getElem?_drop, List.getElem?_eq_getElem hlt]
      obtain ⟨v1, v2⟩ := hv s T.heap comp hKN hRT hcomp _ hmem
      rw [hg]
      refine ⟨v1, ?_⟩
      generalize vs[i + q] = v at v2 ⊢
      cases v with
      | ref x =>
        obtain ⟨c9, m1, m2, ⟨m3, m3'⟩, ⟨m4, m4'⟩, m5⟩ := v2
        obtain ⟨m6, m6', -⟩ := hA.2.2 _ _ m3'
        obtain ⟨m7, m7', -⟩ := hA.2.2 _ _ m4'
        exact ⟨c9, m1, m2, ⟨m6, m6'⟩, ⟨m7, m7'⟩, by show vm'.assignable _ _ = true; rw [hA.assignable]; exact m5⟩
      | _ => trivial)
    (g := F0 m pc ls (.int (nI k) :: .int (nI j) :: .ref b :: .int (nI i) :: .ref a :: st)) rfl hsz rfl (by rw [hC.2.1]; exact hd) (by omega) (by
      have : nativeFrameWords "java/lang/System" "arraycopy" 5 = 7 := by decide
      rw [this]
      show 2 * 0 + _ + _ ≤ _
      omega)
  rw [g_copied hi hj b1 b2 b3] at X' st9
  have hbl : b < T.heap.size := (Array.getElem?_eq_some_iff.mp h6).1
  have hRn : g_RH K ((T.setVm vm').setCell b (g_cell (k_A K ai) (cpy ws vs i j k))).heap (g_up h b (g_ar ai (cpy ws vs i j k))) n :=
    hRT.put hb0 (size_setCell ..) (heapAt_setCell_self _ hbl) (fun q hq => heapAt_setCell_ne _ (Ne.symm hq))
  obtain ⟨t, a1, b1'⟩ := kk p e R s m args below meth c _ _ cells slots ls hC g1 g2 g3 g4 hRn (fun z hz => by
    rcases List.mem_append.mp hz with q | q
    · exact hl z q
    · obtain ⟨w, -, rfl⟩ := List.mem_map.mp q
      exact hb0) hs _ rfl X'
  exact ⟨t, st9 t a1, b1'⟩
end
