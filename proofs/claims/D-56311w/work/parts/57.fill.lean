/-! Throwable.fillInStackTrace() in a launch without traces: the receiver is handed back, nothing changes -/
set_option maxRecDepth 100000
theorem th_atoms : ∀ w ∈ Bundle.throwableAtoms, (w ∈ lw_tbl ∧ g_wd w = true) ∨ w = .laysStatic Bundle.tN "UNASSIGNED_STACK" Bundle.steD ∨ w = .laysStatic Bundle.tN "SUPPRESSED_SENTINEL" Bundle.listD := by
  intro w hw
  simp only [Bundle.throwableAtoms, List.mem_cons, List.not_mem_nil, or_false] at hw
  rcases hw with rfl | rfl | rfl | rfl | rfl | rfl | rfl | rfl | rfl | rfl | rfl | rfl | rfl | rfl | rfl | rfl | rfl | rfl | rfl | rfl | rfl | rfl | rfl | rfl
  · exact Or.inl ⟨lw_all_tbl q139, rfl⟩
  · exact Or.inl ⟨lw_all_tbl q519, rfl⟩
  · exact Or.inl ⟨lw_all_tbl q528, rfl⟩
  · exact Or.inl ⟨lw_all_tbl q540, rfl⟩
  · exact Or.inl ⟨lw_all_tbl q543, rfl⟩
  · exact Or.inl ⟨lw_all_tbl q545, rfl⟩
  · exact Or.inl ⟨lw_all_tbl q520, rfl⟩
  · exact Or.inl ⟨lw_all_tbl q521, rfl⟩
  · exact Or.inl ⟨lw_all_tbl q200, rfl⟩
  · exact Or.inl ⟨lw_all_tbl q201, rfl⟩
  · exact Or.inl ⟨lw_all_tbl q522, rfl⟩
  · exact Or.inl ⟨lw_all_tbl q527, rfl⟩
  · exact Or.inl ⟨lw_all_tbl q541, rfl⟩
  · exact Or.inl ⟨lw_all_tbl q764, rfl⟩
  · exact Or.inl ⟨lw_all_tbl q509, rfl⟩
  · exact Or.inl ⟨lw_all_tbl q765, rfl⟩
  · exact Or.inl ⟨lw_all_tbl q511, rfl⟩
  · exact Or.inl ⟨lw_all_tbl q766, rfl⟩
  · exact Or.inl ⟨lw_all_tbl q513, rfl⟩
  · exact Or.inl ⟨lw_all_tbl q523, rfl⟩
  · exact Or.inr (Or.inl rfl)
  · exact Or.inl ⟨lw_all_tbl q525, rfl⟩
  · exact Or.inr (Or.inr rfl)
  · exact Or.inl ⟨lw_all_tbl q515, rfl⟩
theorem wh_vm {s s0 : State} {v : Vm} (e : s.vm = s0.vm) (h : s.WarmedH v) : s0.WarmedH v := by
  have hr : ∀ d i r, s.rightAt d i r = s0.rightAt d i r := fun d i r => State.rightAt_of_alike (s := s0) (t := s) (by rw [e]; exact Vm.Alike.refl _) d i r
  unfold State.WarmedH at h ⊢
  rw [e] at h
  simp only [hr] at h
  exact h
section
variable {K : g_K} {M : g_M} {d bc bs : Nat} {P : g_Q} {X : g_X} {pc : Nat} {L : List (Option Value)} {st : List Value} {h : g_P} {n : Nat}
theorem r_fill {a ci : Nat} {C : String} {T0 : u_T} {N : Nat} {fs : List Value} {u : Value} (jS jB : Nat) (hd : decode M.2.1 pc = .ok (.invokevirtual 27, 3)) (hc : g_CK ci C T0 N) (h1 : jS < N) (h1' : (T0 jS).1 = Bundle.tN ∧ (T0 jS).2.1 = "stackTrace" ∧ (T0 jS).2.2.1 = Bundle.steD) (h2 : jB < N) (h2' : (T0 jB).1 = Bundle.tN ∧ (T0 jB).2.1 = "backtrace" ∧ (T0 jB).2.2.1 = "Ljava/lang/Object;")
    (hse : Cond.selects C Bundle.tFill Bundle.tFill ∈ lw_all) (hse0 : Cond.selects C Bundle.tFill0 Bundle.tFill0 ∈ lw_all) (hb0 : k_b K ≤ a) (ho : h a = some (g_ob ci fs)) (hu : fs[jS]? = some u) (hbk : fs[jB]? = some .null) (hz : (Bundle.tN, "UNASSIGNED_STACK", Bundle.steD, u) ∈ k_s K) (huv : u = .null ∨ ∃ x, u = .ref x)
    (hd1 : 3 ≤ d) (hL : L.length = M.2.2.1) (hw : (st.map fun v => v.category).sum ≤ 8) (k : g_G K M d bc bs P X (pc + 3) L (.ref a :: st) h n) (hm : M.1.cls = Bundle.tN := by rfl) : g_G K M d bc bs P X pc L (.ref a :: st) h n := by
  intro p e R s0 m args below meth c H locs cells slots ls hC g1 g2 g3 g4 hR hl hs T hT Z0
  have hKN0 := hC.2.2.2.2.2.2.2.2.1
  have Z := vx_rebase Z0 (R' := { frames := R.frames, locals := R.locals, cells := 0, slots := 0 }) (Nat.le_refl _) (Nat.le_refl _) (by show cells + 0 ≤ _; omega) (by show slots + 0 ≤ _; omega)
  generalize hs' : (T.setVm s0.vm).setFrames (.invoking m args :: below) = s at Z
  have hvm : s.vm = s0.vm := by rw [← hs']; rfl
  have hhp : s.heap = T.heap := by rw [← hs']; rfl
  have hKN : g_KN K s := hKN0.warm (by rw [hvm]; exact State.WarmedH.refl s0)
  have hown : s.vm.findClass M.1.cls = some m.cls := by rw [hvm]; exact hC.2.2.2.2.1
  have hRH : g_RH K s.heap h n := by rw [hhp, hT]; exact hR
  have keepL : ∀ (nm ds : String), vx_L Bundle.tN nm ds (fun q => k_b K ≤ q) s (k_H K) → vx_L Bundle.tN nm ds (fun q => k_b K ≤ q) s s.heap := by
    rintro nm ds ⟨c1, k1, i1, f1, a1, cell1, y1, y2, y3, y4, y5, y6, y7, y8, y9, y10⟩
    exact ⟨c1, k1, i1, f1, a1, cell1, y1, y2, y3, y4, (hRH.2.2.2.1 a1 (Nat.not_le.mp y10)).trans y5, y6, y7, y8, y9, y10⟩
  have lU := vx_L.word (args := args) (keepL _ _ hKN.2.2.2.2.2.2.2.2.1)
  have lN := vx_L.word (args := args) (keepL _ _ hKN.2.2.2.2.2.2.2.2.2)
  have hts := g_all hKN args
  have hsz : ls.size = c.maxLocals := by rw [hs.1, hL, hC.2.2.1]
  have howns : e.platform.frameOwnsMonitors = true := by rw [Z.admits.platform]
  have hfin : e.platform.finalization = false := by rw [Z.admits.platform]
  have hpl : e.platform.magicAccessors = ({} : Platform).magicAccessors := by rw [Z.admits.platform]
  have htr : e.platform.stackTraces = false := (show e.platform.stackTraces = (k_l K).stackTraces by rw [Z.admits.platform]).trans hKN.2.2.2.2.2.2.2.1
  obtain ⟨Tc, Zi, Lk, LZ, Y⟩ := ThrowableC.of_atoms (args := args) (s := s) howns hfin hpl (fun x hx => by rcases th_atoms x hx with ⟨q1, q2⟩ | rfl | rfl; exact hKN.word q1 q2 args; exact lU; exact lN)
  obtain ⟨r, w1, ⟨w2, wm⟩, cell, w3, w4, w5, w6⟩ := hR.2.2.1 a _ ho
  have hr : r = (C, T0, N) := Option.some.inj (w1.symm.trans hc.1)
  subst hr
  have wm := wm hb0 cell w3
  have w3' : T.heap[a]? = some cell := by rw [hT]; exact w3
  obtain ⟨hS, hfc, kC, hkC, hkind⟩ := hKN.1 ci _ hc.1
  obtain ⟨cf, kf, fi, f, hi, hsl⟩ := hS jS h1
  obtain ⟨cf2, kf2, fi2, f2, hi2, hsl2⟩ := hS jB h2
  have hlay := (u_lays hts hc.2.1 h1)
  rw [h1'.1, h1'.2.1, h1'.2.2] at hi hlay
  rw [h2'.1, h2'.2.1, h2'.2.2] at hi2
  have ef : f = Tc.fStack := by have := hi.symm.trans Y.stack; simp at this; exact this.2.2.2
  have vS : cell.slots[Tc.fStack.slot]? = some u := by rw [← ef, hsl, w6 jS h1]; simp [vp_V, hu]
  obtain ⟨ci198, i198, fB, hk198, hg198, ha198, hsB, -, hnB, htB, hffB⟩ := Cond.ownField (t := .object "java/lang/Object") Y.found Lk.cls (by decide +kernel) (hts _ q762 : (Cond.fieldLink Bundle.tN 198 Bundle.tN "backtrace" "Ljava/lang/Object;").before args s = true) (hts _ q517 : (Cond.lays Bundle.tN Bundle.tN "backtrace" "Ljava/lang/Object;").before args s = true) e.platform hpl
  have ef2 : f2 = fB := by have := hi2.symm.trans hffB; simp at this; exact this.2.2.2
  have vB : cell.slots[fB.slot]? = some .null := by rw [← ef2, hsl2, w6 jB h2]; simp [vp_V, hbk]
  obtain ⟨cfU, kfU, fiU, fU, aU, cellU, z1, z2, z3, z4, z5, z6, z7, z8⟩ := hKN.2.2.2.1 _ hz
  have eU := z1.symm.trans Y.unassigned
  simp only [Option.some.injEq, Prod.mk.injEq] at eU
  obtain ⟨rfl, rfl, rfl, rfl⟩ := eU
  have eA : aU = Tc.aS := Option.some.inj (z4.symm.trans Lk.statics)
  subst eA
  have aB : Tc.aS < k_b K := Nat.not_le.mp z8
  have hcS : T.heap[Tc.aS]? = some cellU := by rw [hT, hR.2.2.2.1 _ aB]; exact z5
  have hkn : cellU.vm ≠ .unknown := fun q => by rw [q] at z6; cases z6
  have hne : Tc.aS ≠ a := Nat.ne_of_lt (Nat.lt_of_lt_of_le aB hb0)
  obtain ⟨mF, methF, hnF, hmF, hstF, habF⟩ := Cond.instanceMethod_spec (hts _ q528 : (Cond.instanceMethod Bundle.tFill).before args s = true)
  cases hnF.symm.trans Y.fill
  have selF : selectMethod e.platform s.vm cell.cls Tc.fill = .method Tc.fill := by
    obtain ⟨c2, r2, m2, q1, q2, q3, q4, -⟩ := Cond.selects_spec (hts _ hse)
    cases Option.some.inj (q1.symm.trans (by rw [w4]; exact hfc : s.vm.findClass C = some cell.cls))
    cases Option.some.inj (q2.symm.trans (State.methodFound?_of_named Y.fill (by decide)))
    cases Option.some.inj (q3.symm.trans Y.fill)
    rw [Launch.admits_selectMethod Z.admits]; exact q4
  have sel0 : selectMethod e.platform s.vm cell.cls Tc.fill0 = .method Tc.fill0 := by
    obtain ⟨c2, r2, m2, q1, q2, q3, q4, -⟩ := Cond.selects_spec (hts _ hse0)
    cases Option.some.inj (q1.symm.trans (by rw [w4]; exact hfc : s.vm.findClass C = some cell.cls))
    cases Option.some.inj (q2.symm.trans (State.methodFound?_of_named Y.fill0 (by decide)))
    cases Option.some.inj (q3.symm.trans Y.fill0)
    rw [Launch.admits_selectMethod Z.admits]; exact q4
  obtain ⟨c2, r2, m2, q1, q2, q3, q4, kP, hkP, hkPi⟩ := Cond.selects_spec (hts _ hse)
  cases Option.some.inj (q3.symm.trans Y.fill)
  obtain ⟨methF2, cF, hmF2, hcF, hbF, hlF, hrF, hlkF, htF, hsigF⟩ := Cond.codeSync_spec Y.fill (hts _ q540)
  cases hmF.symm.trans hmF2
  have hpar : ([] : List Value).length = methF.sig.parameters.length := by
    have e9 := hsigF
    rw [show parseMethodDescriptor Bundle.tFill.desc = some ⟨[], some (.object "java/lang/Throwable")⟩ from by decide +kernel] at e9
    rw [← Option.some.inj e9]
    rfl
  obtain ⟨vm₁, X₁, hstep₁⟩ := Z.invokevirtual hC.1 (own := Bundle.tN) (by rw [← hm]; exact hown) (hts _ q527) Y.fill hmF hstF hkP hkPi (by decide) (a := a) (cell := cell) w3' (fun z h => by rw [w5] at h; cases h) selF hmF habF hkP hkPi (g := F0 m pc ls (.ref a :: st)) rfl (argsL := []) (rest := st) hpar rfl (by rw [hC.2.1]; exact hd)
  have hu9 : u.isRef = true := by rcases huv with rfl | ⟨y, rfl⟩ <;> rfl
  have hsel9 : Tc.fStack.slot < cell.slots.size := (Array.getElem?_eq_some_iff.mp vS).1
  have hfit : s.fitsSlot cell.cls cell.vm Tc.fStack.slot u = true := by
    have h8 := (u_fits (v := u) hfc hkC hkind hlay hi (ty := .array (.object "java/lang/StackTraceElement")) (by decide +kernel) (by rcases huv with rfl | ⟨y, rfl⟩ <;> rfl) (by rcases huv with rfl | ⟨y, rfl⟩ <;> rfl)).2
    rw [w4, w5, ← ef]
    exact h8
  have hroom := X₁.notFull (g := F0 m pc ls st) hsz (vars := 1 + 2) (show 1 ≤ R.frames by omega) (show 2 * 0 + (st.map fun v => v.category).sum + (1 + 2 + 11) ≤ R.locals by omega)
  have hfr9 := X₁.framesAbove (n := 2) (show 2 < R.frames by omega)
  have hwd9 := X₁.stackAbove (g := F0 m pc ls st) hsz (K := 41) (show 2 * 0 + (st.map fun v => v.category).sum + 41 ≤ R.locals by omega)
  have hlen9 : (T.setVm vm₁).frames.length = (Frame.java (F0 m pc ls st) :: (T.setVm vm₁).frames.tail).length := by
    obtain ⟨g₀, hfr⟩ := X₁.frames_eq
    rw [hfr]; rfl
  have hroomN : ∀ vm1, e.platform.stackFull ((((fillInside ((T.setVm vm₁).setVm vm1) (F0 m pc ls st) Tc.fill a cell).setTop (fillJ Tc.fill a 16 [])).threads[((fillInside ((T.setVm vm₁).setVm vm1) (F0 m pc ls st) Tc.fill a cell).setTop (fillJ Tc.fill a 16 [])).cur]?).getD { frames := [] }) ((fillInside ((T.setVm vm₁).setVm vm1) (F0 m pc ls st) Tc.fill a cell).setTop (fillJ Tc.fill a 16 [])).frames (nativeFrameWords "java/lang/Throwable" "fillInStackTrace" 2) = false := by
    intro vm1
    have htopE : (((T.setVm vm₁).setVm vm1).setCell a (cell.withEntry ((T.setVm vm₁).setVm vm1).cur)).topJava?.isSome := X₁.here.top
    have hfF : (fillInside ((T.setVm vm₁).setVm vm1) (F0 m pc ls st) Tc.fill a cell).frames = .java (entryFrameSync Tc.fill #[.ref a] 1 a) :: .java (F0 m pc ls st) :: (T.setVm vm₁).frames.tail := by
      rw [show (fillInside ((T.setVm vm₁).setVm vm1) (F0 m pc ls st) Tc.fill a cell).frames = _ from frames_entered (g := F0 m pc ls st) htopE _]
      rfl
    have htopF : (fillInside ((T.setVm vm₁).setVm vm1) (F0 m pc ls st) Tc.fill a cell).topJava?.isSome := by rw [State.topJava?_of_frames hfF]; rfl
    have hlimF : e.platform.stackLimits (fillInside ((T.setVm vm₁).setVm vm1) (F0 m pc ls st) Tc.fill a cell).me = e.platform.stackLimits (T.setVm vm₁).me := by
      rw [State.stackLimits_pushFrame, State.stackLimits_setTop _ htopE]; rfl
    have hw14 : (stackUse [Frame.java (fillJ Tc.fill a 16 [])]).2 = 14 := by
      rw [stackUse_java, stackUse_nil]
      simp [operandWords]
    exact roomAbove (pl := e.platform) (u := (fillInside ((T.setVm vm₁).setVm vm1) (F0 m pc ls st) Tc.fill a cell).setTop (fillJ Tc.fill a 16 [])) (vars := nativeFrameWords "java/lang/Throwable" "fillInStackTrace" 2)
      (pushed := [.java (fillJ Tc.fill a 16 [])]) (base := .java (F0 m pc ls st) :: (T.setVm vm₁).frames.tail) (free := 41) (lim := e.platform.stackLimits (T.setVm vm₁).me) (State.frames_setTop _ hfF) (by rw [State.stackLimits_setTop _ htopF]; exact hlimF)
      (by rw [← hlen9]; simp only [List.length_cons, List.length_nil]; omega) hwd9 (by rw [hw14]; decide)
  obtain ⟨vm', hW', st9⟩ := Steps.fillColdAnyV p (s₀ := s) (V := T.setVm vm₁) (g := F0 m pc ls st) (self := a) X₁.here hC.1 Tc Lk X₁.warmed (Nn := fun u => u) heapOnly_id (fun _ _ => rfl) (fun _ => rfl) (fun u x y => setCell_twice _ _ _ _) (cell := cell) (cellS := cellU) (cN := cell.withEntry (T.setVm vm₁).cur) (u0 := ⟨u, hu9⟩) (ig := .invokevirtual 27) (len := 3) []
    w3' (fun k h => by rw [w5] at h; cases h) (fun h => by rw [w5] at h; cases h) (Or.inl wm.1) vS sel0 hcS hne hkn z7 (fun _ hu => hu) (fun _ hu => hu) rfl rfl rfl rfl ⟨hsel9, hfit⟩ (by rw [hC.2.1]; exact hd)
    (fun _ vm1 hW1 hA t' hst => Lk.nativeOff p htr hA hW1 (hroomN vm1) hst) hroom ⟨{ ci198 := ci198, i198 := i198, fBack := fB }, ⟨hk198, hg198, ha198, hsB⟩, vB, fun _ _ => rfl⟩
  have eC : ((cell.withEntry (T.setVm vm₁).cur).setSlot Tc.fStack.slot u).left = cell := by
    rw [Cell.setSlot_same (x := cell.withEntry (T.setVm vm₁).cur) vS]
    exact Cell.left_withEntry _ wm.1 wm.2
  have eT : ((T.setVm vm₁).setVm vm').setCell a ((cell.withEntry (T.setVm vm₁).cur).setSlot Tc.fStack.slot u).left = (T.setVm vm₁).setVm vm' := by
    rw [eC]
    exact State.setCell_held w3'
  obtain ⟨t, a1, b1⟩ := k p e R s0 m args below meth c H locs cells slots ls hC g1 g2 g3 g4 hR hl hs ((T.setVm vm₁).setVm vm') hT (Z0.noted (wh_vm hvm hW'))
  refine ⟨t, hstep₁ _ (fun acts => ?_), b1⟩
  rw [doInvoke_state]
  refine st9 _ ?_
  show Steps p.tables e below ((((T.setVm vm₁).setVm vm').setCell a ((cell.withEntry (T.setVm vm₁).cur).setSlot Tc.fStack.slot u).left).setTop _) t
  rw [eT]
  exact a1
end
