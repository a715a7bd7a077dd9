/-! TreeSet: an interface's method that another interface declares; add, iterator -/
set_option maxRecDepth 100000
section
variable {K : g_K} {M : g_M} {d bc bs : Nat} {P : g_Q} {X : g_X} {pc : Nat} {L : List (Option Value)} {st : List Value} {h : g_P} {n : Nat}
theorem r_callFU {st0 : List Value} {M' : g_M} {C J : String} {T0 : u_T} {N ci : Nat} {fs : List Value} {x : MethodName} {count : Nat} {index d' bc' bs' : Nat} {P' : g_Q} {X' : g_X} (As : List Value) {b : Nat} (hd : decode M.2.1 pc = .ok (.invokeinterface index count, 5)) (hlink : Cond.methodLink M.1.cls index x ∈ lw_nar) (hdc : Cond.declares ⟨J, x.name, x.desc⟩ ∈ lw_tbl) (hpj : Cond.publicMethod ⟨J, x.name, x.desc⟩ ∈ lw_tbl) (hfa : Cond.interfaceMethod x.cls J x.name x.desc ∈ lw_nar) (hfw : g_wd (Cond.interfaceMethod x.cls J x.name x.desc) = true) (hxo : x.cls ≠ J) (hJ : J ≠ "java/lang/invoke/MethodHandle" ∧ J ≠ "java/lang/invoke/VarHandle") (hse : Cond.selects C ⟨J, x.name, x.desc⟩ M'.1 ∈ lw_all) (hin : Cond.instanceMethod M'.1 ∈ lw_all) (hpu : Cond.publicMethod M'.1 ∈ lw_tbl) (hun : Cond.unhidden C x.name x.desc ∈ lw_tbl) (hca : Cond.castable C x.cls ∈ lw_tbl) (hh : M'.2.2.2.2 = []) (hcw : g_cw M' ∈ lw_tbl) (hini : Cond.initialized M'.1.cls ∈ lw_all) (hpl : g_pl x As.length) (hcc : g_CL[ci]? = some (C, T0, N)) (ho : h b = some (g_ob ci fs))
    (hM : g_Met K M' d' bc' bs' (.ref b :: As) h n P' X') (hd1 : d' + 1 ≤ d) (hml : M'.2.2.1 ≤ 40) (hc : bc' ≤ bc) (hsl : bs' ≤ bs) (hL : L.length = M.2.2.1) (hw : (st.map fun v => v.category).sum ≤ 8) (hst : st0 = As.reverse ++ .ref b :: st)
    (kn : ∀ (v : Option Value) (h' : g_P) (n' : Nat), P' v h' n' → g_G K M d (bc - bc') (bs - bs') P X (pc + 5) L (v.toList ++ st) h' n') (kx : ∀ (q : Nat) (h' : g_P) (n' : Nat), X' q h' n' → g_GX K M d (bc - bc') (bs - bs') P X pc L h' n' q) :
    g_G K M d bc bs P X pc L st0 h n := by
  subst hst
  intro p e R s m args below meth c H locs cells slots ls hC g1 g2 g3 g4 hR hl hs T hT Z
  have hKN := hC.2.2.2.2.2.2.2.2.1
  have hts := g_all hKN args
  have hsz : ls.size = c.maxLocals := by rw [hs.1, hL, hC.2.2.1]
  obtain ⟨cellB, w1, w2, w3⟩ := g_recv hKN hR hcc ho
  obtain ⟨kB, hkB, -⟩ := Vm.findClass_spec w3
  have hK := g_back (R := R) (p := p) (e := e) (below := below) (s := s) (sargs := args) (len := 5) (W9 := 8) hM hKN hcw hini (by omega) (by omega)
  refine g_after (args := args) (d' := d') (av := ((.ref b :: As)).toArray) (st := st) (len := 5) hC g1 g2 g3 g4 hl hs hc hsl kn kx ?_
  obtain ⟨r0, r, hn, hrm, hstR, hsigR⟩ := Cond.declares_spec (hKN.word hdc rfl args)
  have hface := hKN.nar hfa hfw args
  obtain ⟨cL, kL, r1, hcL, hkL, hiL, hfoundL, hn1⟩ := Cond.interfaceMethod_spec hface
  obtain ⟨hnameR, hdescR⟩ := name_of_methodNamed hn hrm
  obtain ⟨mk, methM, hnamed, hmethM, -, habM⟩ := Cond.instanceMethod_spec (hts _ hin)
  obtain ⟨c2, r2, m2, q1, q2, q3, q4, -⟩ := Cond.selects_spec (hts _ hse)
  cases w3.symm.trans q1
  cases (State.methodFound?_of_named hn hJ).symm.trans q2
  cases hnamed.symm.trans q3
  have hselP : selectMethod e.platform s.vm cellB.cls r0 = .method mk := by rw [Launch.admits_selectMethod Z.admits]; exact q4
  have hpubM : hasFlag methM.accessFlags Acc.public_ = true := Cond.publicMethod_spec hnamed hmethM (hKN.word hpu rfl args)
  have hway : ((cellB.cls :: s.vm.superclasses cellB.cls).any fun k => (declaredIn s.vm r.name r.desc k).any fun (_, z) => z.isPrivate || z.isStatic) = false := by
    rw [hnameR, hdescR]; exact Cond.unhidden_spec w3 (hKN.word hun rfl args)
  obtain ⟨c3, t3, u1, u2, u3⟩ := Cond.castable_spec (hKN.word hca rfl args)
  cases w3.symm.trans u1
  cases hcL.symm.trans u2
  obtain ⟨vm₁, X₁, hstep₁⟩ := Z.invokeinterfaceUp hC.1 hC.2.2.2.2.1 (hKN.nar hlink rfl args) hface (hKN.word hdc rfl args) (hKN.word hpj rfl args) hxo ⟨hpl.1, hpl.2.1⟩ hcL (a := b) (cell := cellB) (kcell := kB) (by rw [hT]; exact w1)
    (fun z h => by rw [h] at w2; cases w2) hkB u3 hn hrm hselP hmethM hway hpubM habM (g := F0 m pc ls (As.reverse ++ .ref b :: st)) rfl (argsL := As) (rest := st) (g_pl_len hpl _ hsigR) rfl (by rw [hC.2.1]; exact hd)
  rcases hK m meth c ⟨T.setVm vm₁, locs, cells, slots⟩ (F0 m pc ls st) (.invokeinterface index count) mk (Value.ref b :: As).toArray X₁ rfl hsz (by rw [hC.2.1]; exact hd) (lv_room hw) (X₁.named hnamed) ⟨rfl, by show cells + bc' ≤ _; omega, by show slots + bs' ≤ _; omega, by show g_RH K T.heap h n; rw [hT]; exact hR⟩ with ⟨v, B, X2, hpost, hsteps⟩ | ⟨q, B, X2, hpost, hsteps⟩
  · exact Or.inl ⟨v, vm₁, B, X₁.warmed, X2, hpost, fun target h => hstep₁ _ fun acts => by rw [doInvoke_state]; exact hsteps.trans h⟩
  · exact Or.inr ⟨q, vm₁, B, X₁.warmed, X2, hpost, hstep₁ _ fun acts => by rw [doInvoke_state]; exact hsteps⟩
end
/-! the set of remainders: I the loaves in order, N their nodes, Q their remainders -/
def rky (ρ : Nat → Nat) (c i : Nat) : Int := (i : Int) - 8 * (rs ρ c i : Int)
def tsL (W : c_W) (I : List Nat) (N Q : Nat → Nat) : List c_N := I.map fun i => (N i, .ref (Q i), .ref (c_P W))
def tsT (K : g_K) (W : c_W) (ρ : Nat → Nat) (c mp j : Nat) (I : List Nat) (N Q : Nat → Nat) (h : g_P) : Prop :=
  (∃ mc : Int32, tm K mp (tsL W I N Q) mc .null h) ∧ I.Perm (List.range j) ∧ I.Pairwise (fun a b => rky ρ c a < rky ρ c b) ∧ ∀ i, i < j → h (Q i) = some (g_ob 8 [.int (nI i), .int (nI (rs ρ c i))]) ∧ mp < N i ∧ ∀ i2, i2 < j → Q i2 = Q i → i2 = i
theorem srt_split {ρ : Nat → Nat} {c k : Nat} : ∀ {I : List Nat}, I.Pairwise (fun a b => rky ρ c a < rky ρ c b) → (∀ i ∈ I, rky ρ c i ≠ rky ρ c k) → ∃ I1 I2, I = I1 ++ I2 ∧ (∀ i ∈ I1, rky ρ c i < rky ρ c k) ∧ ∀ i ∈ I2, rky ρ c k < rky ρ c i := by
  intro I
  induction I with
  | nil => intro _ _; exact ⟨[], [], rfl, fun i hi => (by cases hi), fun i hi => (by cases hi)⟩
  | cons x I ih =>
    intro hp hn
    obtain ⟨h1, h2⟩ := List.pairwise_cons.mp hp
    by_cases hx : rky ρ c x < rky ρ c k
    · obtain ⟨I1, I2, e, q1, q2⟩ := ih h2 (fun i hi => hn i (List.mem_cons_of_mem _ hi))
      refine ⟨x :: I1, I2, by rw [e]; rfl, fun i hi => ?_, q2⟩
      rcases List.mem_cons.mp hi with rfl | hi
      · exact hx
      · exact q1 i hi
    · have hx2 : rky ρ c k < rky ρ c x := by have := hn x List.mem_cons_self; omega
      refine ⟨[], x :: I, rfl, fun i hi => (by cases hi), fun i hi => ?_⟩
      rcases List.mem_cons.mp hi with rfl | hi
      · exact hx2
      · have := h1 i hi; omega
theorem rky_inj {ρ : Nat → Nat} {c i k : Nat} (hi : i < 8) (hk : k < 8) (e : rky ρ c i = rky ρ c k) : i = k := by
  unfold rky at e
  omega
section
variable {K : g_K} {W : c_W} {a s mp n : Nat} {h : g_P}
theorem k_J41_init2 {v0 : Value} (hb : k_b K ≤ s) (ho : h s = some (g_ob 38 [v0])) (hm : ∃ vs, h mp = some (g_ob 17 vs)) : g_Met K mJ41_init_2 4 0 0 [.ref s, .ref mp] h n (gV fun h' n' => h' = g_up h s (g_ob 38 [.ref mp]) ∧ n' = n) gN := by
  obtain ⟨vs, hm⟩ := hm
  refine g_Met.of (M := mJ41_init_2) (L := [some (.ref s), some (.ref mp)]) (by decide +kernel) (Nat.le_of_ble_eq_true rfl) rfl ?_
  refine r_aload0 dJ41_init_2_0 ?_
  refine r_callI (M' := mJ23_init) _ dJ41_init_2_1 q1943 q1694 rfl rfl rfl (lw_all_tbl q1695) q156 (by exact pl_J23_init)  (k_J23_init) (by omega) (Nat.le_of_ble_eq_true rfl) (by omega) (by omega) rfl (Nat.le_of_ble_eq_true rfl) rfl (kV fun h1 n1 e1 => ?_) kN
  obtain ⟨q8, q7⟩ := e1; have q8 := q8.symm; have q7 := q7.symm; subst q8; subst q7
  refine r_aload0 dJ41_init_2_4 ?_
  refine r_aload1 dJ41_init_2_5 ?_
  refine p_J41_7_J41 dJ41_init_2_6 (by omega) (by first | assumption | exact g_us | (rw [g_un (by omega)]; assumption) | (rw [g_un (by omega)]; exact g_us) | (rw [g_un (by omega), g_un (by omega)]; assumption) | (rw [g_un (by omega), g_un (by omega)]; exact g_us) | (rw [g_un (by omega), g_un (by omega), g_un (by omega)]; assumption) | ((repeat (rw [g_un (by omega)])); first | exact g_us | assumption)) ?_
  exact r_return dJ41_init_2_9 rfl (⟨rfl, rfl⟩)
theorem k_J41_init {v0 : Value} (hb : k_b K ≤ s) (hs : s < n) (ho : h s = some (g_ob 38 [v0])) : g_Met K mJ41_init 5 1 9 [.ref s] h n (gV fun h' n' => h' s = some (g_ob 38 [.ref n]) ∧ tm K n [] (nI 0) .null h' ∧ (∀ q : Nat, q < n → q ≠ s → h' q = h q) ∧ n' = n + 1) gN := by
  refine g_Met.facts fun f1 f2 f3 => ?_
  refine g_Met.of (M := mJ41_init) (L := [some (.ref s)]) (by decide +kernel) (Nat.le_of_ble_eq_true rfl) rfl ?_
  refine r_aload0 dJ41_init_0 ?_
  refine n_J41_13 dJ41_init_1 (by omega) (by omega) ?_
  refine r_dup dJ41_init_4 ?_
  refine r_callI (M' := mJ1_init) _ dJ41_init_5 q1939 q211 rfl rfl rfl (lw_all_tbl q212) q128 (by exact pl_J1_init)  ((k_J1_init f1 g_us)) (by omega) (Nat.le_of_ble_eq_true rfl) (by omega) (by omega) rfl (Nat.le_of_ble_eq_true rfl) rfl (kV fun h5 n5 e5 => ?_) kN
  obtain ⟨z1, z2, rfl⟩ := e5
  have z10 := z1
  obtain ⟨⟨tt, hm, -⟩, -⟩ := z10
  refine r_callI (M' := mJ41_init_2) _ dJ41_init_8 q1940 q1941 rfl rfl rfl (lw_all_tbl q1942) q179 (by exact pl_J41_init_2)  ((k_J41_init2 hb (by rw [z2 _ (by omega), g_un (by omega)]; exact ho) ⟨_, hm⟩)) (by omega) (Nat.le_of_ble_eq_true rfl) (by omega) (by omega) rfl (Nat.le_of_ble_eq_true rfl) rfl (kV fun h8 n8 e8 => ?_) kN
  obtain ⟨q8, q7⟩ := e8; have q8 := q8.symm; have q7 := q7.symm; subst q8; subst q7
  exact r_return dJ41_init_11 rfl (⟨g_us, z1.keep (g_un (by omega)) (fun z hz => by cases hz), fun q h1 h2 => by rw [g_un h2, z2 _ (by omega), g_un (by omega)], rfl⟩)
theorem tsL_app {I1 I2 : List Nat} {N Q : Nat → Nat} : tsL W (I1 ++ I2) N Q = tsL W I1 N Q ++ tsL W I2 N Q := List.map_append
theorem tsL_fup {I : List Nat} {N Q : Nat → Nat} {j x y : Nat} (hn : ∀ i ∈ I, i ≠ j) : tsL W I (fup N j x) (fup Q j y) = tsL W I N Q := List.map_congr_left fun i hi => by rw [fup_n (hn i hi), fup_n (hn i hi)]
theorem tsL_mem {I : List Nat} {N Q : Nat → Nat} {z : c_N} (hz : z ∈ tsL W I N Q) : ∃ i ∈ I, z = (N i, .ref (Q i), .ref (c_P W)) := by
  obtain ⟨i, hi, rfl⟩ := List.mem_map.mp hz
  exact ⟨i, hi, rfl⟩
theorem pl_nmput : g_pl ⟨"java/util/NavigableMap", "put", "(Ljava/lang/Object;Ljava/lang/Object;)Ljava/lang/Object;"⟩ 2 := ⟨by decide, by decide, by decide +kernel⟩
theorem k_J41_add {ρ : Nat → Nat} {c q j : Nat} {I : List Nat} {N Q : Nat → Nat} (w0 : cOK K W) (hm : k_b K ≤ mp) (hr : ∀ i, rs ρ c i < 2147483648) (hj : j < 8) (T : tsT K W ρ c mp j I N Q h) (ho : h s = some (g_ob 38 [.ref mp])) (hq : h q = some (g_ob 8 [.int (nI j), .int (nI (rs ρ c j))])) (hq2 : ∀ i, i < j → Q i ≠ q) : g_Met K mJ41_add 8 1 6 [.ref s, .ref q] h n (gI fun r h' n' => (∃ I' N', tsT K W ρ c mp (j + 1) I' N' (fup Q j q) h') ∧ (∀ (z k : Nat) (vs : List Value), h z = some (g_ob k vs) → k ≠ 24 → k ≠ 17 → h' z = h z) ∧ (∀ (z k : Nat) (vs : List Value), h z = some (g_ar k vs) → h' z = h z) ∧ (∀ z : Nat, z < mp → h' z = h z) ∧ n' = n + 1) gN := by
  refine g_Met.facts fun f1 f2 f3 => ?_
  obtain ⟨⟨mc, T1⟩, T2, T3, T4⟩ := T
  have lt : ∀ i ∈ I, i < j := fun i hi => List.mem_range.mp (T2.mem_iff.mp hi)
  obtain ⟨I1, I2, rfl, s1, s2⟩ := srt_split (k := j) T3 (fun i hi e => by have := lt i hi; have := rky_inj (by omega) hj e; omega)
  have lt1 : ∀ i ∈ I1, i < j := fun i hi => lt i (List.mem_append.mpr (Or.inl hi))
  have lt2 : ∀ i ∈ I2, i < j := fun i hi => lt i (List.mem_append.mpr (Or.inr hi))
  obtain ⟨ky, ky1, ky2⟩ : ∃ ky : Value → Int, (∀ i, i < j → ky (.ref (Q i)) = rky ρ c i) ∧ ky (.ref q) = rky ρ c j := by
    classical
    refine ⟨fun v => if z : ∃ i, i < j ∧ v = .ref (Q i) then rky ρ c (Classical.choose z) else rky ρ c j, fun i hi => ?_, ?_⟩
    · have z : ∃ i', i' < j ∧ Value.ref (Q i) = .ref (Q i') := ⟨i, hi, rfl⟩
      have e := Classical.choose_spec z
      dsimp only
      rw [dif_pos z]
      have := (T4 _ e.1).2.2 i hi (by have := e.2; simpa using this)
      rw [← this]
    · dsimp only
      rw [dif_neg (fun z => by obtain ⟨i, hi, e⟩ := z; exact hq2 i hi (by simpa using e.symm))]
  have T0 := T1
  rw [tsL_app] at T1
  have kq : ∀ i, i < j → kyc false h (.ref (Q i)) (rky ρ c i) := fun i hi => ⟨Q i, rfl, Or.inr ⟨rfl, i, rs ρ c i, by omega, hr i, (T4 i hi).1, rfl⟩⟩
  have hput := k_put (n := n) (b := false) (ky := ky) (kx := q) (vx := c_P W) hm T1 (fun z hz => by
    rw [← tsL_app] at hz
    obtain ⟨i, hi, rfl⟩ := tsL_mem hz
    dsimp only
    rw [ky1 i (lt i hi)]
    exact kq i (lt i hi)) (fun z hz => by
    obtain ⟨i, hi, rfl⟩ := tsL_mem hz
    dsimp only
    rw [ky1 i (lt1 i hi), ky2]
    exact s1 i hi) (fun z hz => by
    obtain ⟨i, hi, rfl⟩ := tsL_mem hz
    dsimp only
    rw [ky1 i (lt2 i hi), ky2]
    exact s2 i hi) (by rw [ky2]; exact ⟨q, rfl, Or.inr ⟨rfl, j, rs ρ c j, hj, hr j, hq, rfl⟩⟩)
  have Tc := T0.1
  obtain ⟨tt, hmp, -⟩ := Tc
  refine g_Met.of (M := mJ41_add) (L := [some (.ref s), some (.ref q)]) (by decide +kernel) (Nat.le_of_ble_eq_true rfl) rfl ?_
  refine r_aload0 dJ41_add_0 ?_
  refine f_J41_7_J41 dJ41_add_1 ho ?_
  refine r_aload1 dJ41_add_4 ?_
  refine r_getstatic dJ41_add_5 w0.2.2.1.1 q1978 (Or.inl rfl) ?_
  refine r_callFU (M' := mJ1_put) (C := "java/util/TreeMap") (J := "java/util/Map") (x := ⟨"java/util/NavigableMap", "put", "(Ljava/lang/Object;Ljava/lang/Object;)Ljava/lang/Object;"⟩) [.ref q, .ref (c_P W)] dJ41_add_8 List.mem_cons_self q1982 q1981 (List.mem_cons_of_mem _ List.mem_cons_self) rfl (by decide) ⟨by decide, by decide⟩ q1983 q1985 q1986 q1984 q1756 rfl (lw_all_tbl q1987) q128 pl_nmput gc_J1 hmp hput (by omega) (Nat.le_of_ble_eq_true rfl) (by omega) (by omega) rfl (Nat.le_of_ble_eq_true rfl) rfl (kA fun r8 h8 n8 t8 e8 => ?_) kN
  obtain ⟨rfl, z1, z2, rfl⟩ := e8
  have fo : ∀ (z : Nat) (cc : g_C), h z = some cc → (∀ vs, cc ≠ g_ob 24 vs) → (∀ vs, cc ≠ g_ob 17 vs) → h8 z = h z := fun z cc q1 q2 q3 => by
    refine z2 z (fun e => ?_) (fun w hw e => ?_)
    · rw [e, hmp] at q1
      exact q3 _ (Option.some.inj q1).symm
    · rcases List.mem_append.mp hw with hw | hw
      · obtain ⟨vs, e2⟩ := T0.node (z := w) (by rw [tsL_app]; exact List.mem_append.mpr (Or.inl hw))
        rw [e, q1] at e2
        exact q2 _ (Option.some.inj e2)
      · rcases List.mem_cons.mp hw with rfl | hw
        · have := f2 _ _ q1
          dsimp only at e
          omega
        · obtain ⟨vs, e2⟩ := T0.node (z := w) (by rw [tsL_app]; exact List.mem_append.mpr (Or.inr hw))
          rw [e, q1] at e2
          exact q2 _ (Option.some.inj e2)
  have fob : ∀ (z k : Nat) (vs : List Value), h z = some (g_ob k vs) → k ≠ 24 → k ≠ 17 → h8 z = h z := fun z k vs q1 q2 q3 => fo z _ q1 (fun vs e => q2 (obj_inj (congrArg some e))) (fun vs e => q3 (obj_inj (congrArg some e)))
  refine r_ifnonnullZ dJ41_add_13 ?_
  refine r_iconst (v := nI 1) dJ41_add_16 (by decide) ?_
  refine r_goto (tgt := 21) dJ41_add_17 (by decide) ?_
  obtain ⟨p1, p2, p3⟩ := List.pairwise_append.mp T3
  refine r_ireturn dJ41_add_21 rfl (by first | exact nB_nar | rfl) ⟨⟨I1 ++ j :: I2, fup N j n, ⟨mc + nI 1, ?_⟩, (List.perm_middle.trans ((T2.cons j).trans (by rw [List.range_succ]; exact (List.perm_append_singleton j _).symm))), List.pairwise_append.mpr ⟨p1, List.pairwise_cons.mpr ⟨fun x hx => s2 x hx, p2⟩, fun x hx y hy => ?_⟩, fun i hi => ?_⟩, fob, fun z k vs q1 => fo z _ q1 (fun vs e => obj_arr (congrArg some e.symm)) (fun vs e => obj_arr (congrArg some e.symm)), fun z hz => ?_, rfl⟩
  · rw [tsL_app, tsL_fup (fun i hi => Nat.ne_of_lt (lt1 i hi)), show tsL W (j :: I2) (fup N j n) (fup Q j q) = (n, .ref q, .ref (c_P W)) :: tsL W I2 N Q by rw [← tsL_fup (N := N) (Q := Q) (j := j) (x := n) (y := q) (fun i hi => Nat.ne_of_lt (lt2 i hi))]; simp [tsL, fup_s]]
    exact z1
  · rcases List.mem_cons.mp hy with rfl | hy
    · exact s1 x hx
    · exact p3 x hx y hy
  · by_cases e : i = j
    · subst e
      rw [fup_s, fup_s]
      refine ⟨(fob _ _ _ hq (by decide) (by decide)).trans hq, f2 _ _ hmp, fun i2 hi2 e2 => ?_⟩
      by_cases e3 : i2 = i
      · exact e3
      · rw [fup_n e3] at e2
        exact absurd e2 (hq2 i2 (by omega))
    · have hi2 : i < j := by omega
      obtain ⟨y1, y2, y3⟩ := T4 i hi2
      rw [fup_n e, fup_n e]
      refine ⟨(fob _ _ _ y1 (by decide) (by decide)).trans y1, y2, fun i2 hi2' e2 => ?_⟩
      by_cases e3 : i2 = j
      · subst e3
        rw [fup_s] at e2
        exact absurd e2.symm (hq2 i hi2)
      · rw [fup_n e3] at e2
        exact y3 i2 (by omega) e2
  · refine z2 z (by omega) (fun w hw e => ?_)
    rcases List.mem_append.mp hw with hw | hw
    · obtain ⟨i, hi, rfl⟩ := tsL_mem hw
      have := (T4 i (lt1 i hi)).2.1
      dsimp only at e
      omega
    · rcases List.mem_cons.mp hw with rfl | hw
      · have := f2 _ _ hmp
        dsimp only at e
        omega
      · obtain ⟨i, hi, rfl⟩ := tsL_mem hw
        have := (T4 i (lt2 i hi)).2.1
        dsimp only at e
        omega
theorem k_J41_iterator {L : List c_N} {mc : Int32} (hm : k_b K ≤ mp) (ho : h s = some (g_ob 38 [.ref mp])) (T : tm K mp L mc .null h) : g_Met K mJ41_iterator 5 2 5 [.ref s] h n (gA fun r h' n' => ∃ z nk, r = .ref z ∧ n ≤ z ∧ z < n' ∧ h' z = some (g_ob 26 [hdV L, .null, .int mc, .ref mp]) ∧ tm K mp L mc nk h' ∧ (∀ q : Nat, q < n → q ≠ mp → h' q = h q) ∧ n ≤ n' ∧ n' ≤ n + 2) gN := by
  refine g_Met.facts fun f1 f2 f3 => ?_
  have Tc := T.1
  obtain ⟨tt, hmp, -⟩ := Tc
  refine g_Met.of (M := mJ41_iterator) (L := [some (.ref s)]) (by decide +kernel) (Nat.le_of_ble_eq_true rfl) rfl ?_
  refine r_aload0 dJ41_iterator_0 ?_
  refine f_J41_7_J41 dJ41_iterator_1 ho ?_
  refine r_callF (M' := mJ1_navigableKeySet) _ dJ41_iterator_4 q1753 q1755 q1754 rfl q1757 q1685 q1759 q1758 q1756 rfl (lw_all_tbl q1687) q128 (by exact (⟨by decide, by decide, by decide +kernel⟩ : g_pl ⟨"java/util/NavigableMap", "navigableKeySet", "()Ljava/util/NavigableSet;"⟩ 0)) gc_J1 hmp ((k_nks hm T (Or.inl rfl))) (by omega) (Nat.le_of_ble_eq_true rfl) (by omega) (by omega) rfl (Nat.le_of_ble_eq_true rfl) rfl (kA fun r4 h4 n4 t4 e4 => ?_) kN
  obtain ⟨ks, rfl, T1, z1, z2, z3, z4, z5, z6, -⟩ := e4
  refine r_callF (M' := mJ24_iterator) _ dJ41_iterator_9 q1761 q1763 q1762 rfl q1765 q1708 q1709 q1707 q1764 rfl (lw_all_tbl q1710) q157 (by exact (⟨by decide, by decide, by decide +kernel⟩ : g_pl ⟨"java/util/NavigableSet", "iterator", "()Ljava/util/Iterator;"⟩ 0)) gc_J24 z1 ((k_J24_iterator T1 z1)) (by omega) (Nat.le_of_ble_eq_true rfl) (by omega) (by omega) rfl (Nat.le_of_ble_eq_true rfl) rfl (kA fun r9 h9 n9 t9 e9 => ?_) kN
  obtain ⟨rfl, rfl, rfl⟩ := e9
  have nn : ∀ z : Nat, h4 z ≠ none → z ≠ n4 := fun z hz e => by
    rw [e, z6 n4 (Nat.le_refl _)] at hz
    cases hc : h n4 with
    | none => exact hz hc
    | some cc => have := f2 _ _ hc; omega
  have T1c := T1.1
  obtain ⟨tt1, hmp1, -⟩ := T1c
  have T2 := T1.keep (h' := g_up h4 n4 (g_ob 26 [hdV L, .null, .int mc, .ref mp])) (g_un (nn mp (by rw [hmp1]; exact fun z => by cases z))) (fun z hz => g_un (nn z.1 (by obtain ⟨vs, e⟩ := T1.node hz; rw [e]; exact fun z => by cases z)))
  exact r_areturn dJ41_iterator_14 rfl (Or.inl ⟨_, rfl⟩) (Or.inr ⟨_, rfl⟩) (⟨n4, _, rfl, z3, Nat.lt_succ_self n4, g_us, T2, fun q h1 h2 => (g_un (by omega)).trans (z2 q h1 h2), Nat.le_succ_of_le z3, Nat.succ_le_succ z4⟩)
theorem k_X10_init {x y : Int32} {v0 v1 : Value} (hb : k_b K ≤ s) (ho : h s = some (g_ob 8 [v0, v1])) : g_Met K mX10_init 1 0 0 [.ref s, .int x, .int y] h n (gV fun h' n' => h' = g_up h s (g_ob 8 [.int x, .int y]) ∧ n' = n) gN := by
  refine g_Met.of (M := mX10_init) (L := [some (.ref s), some (.int x), some (.int y)]) (by decide +kernel) (Nat.le_of_ble_eq_true rfl) rfl ?_
  refine r_aload0 dX10_init_0 ?_
  refine r_objInit dX10_init_1 q1965 q200 q201 rfl (by omega) (Nat.le_of_ble_eq_true rfl) ?_
  refine r_aload0 dX10_init_4 ?_
  refine r_iload1 dX10_init_5 ?_
  refine p_X10_7_X10 dX10_init_6 (by omega) ho ?_
  refine r_aload0 dX10_init_9 ?_
  refine r_iload2 dX10_init_10 ?_
  refine p_X10_13_X10 dX10_init_11 (by omega) g_us ?_
  exact r_return dX10_init_14 rfl (⟨by rw [g_up_up], rfl⟩)
end
