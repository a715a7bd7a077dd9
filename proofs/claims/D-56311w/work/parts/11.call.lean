/-! ends, throws, calls -/
set_option maxRecDepth 100000
/-- posts by the kind of the answer -/
def gV (Q : g_P → Nat → Prop) : g_Q := fun v h n => v = none ∧ Q h n
def gI (Q : Int32 → g_P → Nat → Prop) : g_Q := fun v h n => ∃ x : Int32, v = some (.int x) ∧ Q x h n
def gJ (Q : Int64 → g_P → Nat → Prop) : g_Q := fun v h n => ∃ x : Int64, v = some (.long x) ∧ Q x h n
def gF (Q : UInt32 → g_P → Nat → Prop) : g_Q := fun v h n => ∃ x : UInt32, v = some (.float x) ∧ Q x h n
def gD (Q : UInt64 → g_P → Nat → Prop) : g_Q := fun v h n => ∃ x : UInt64, v = some (.double x) ∧ Q x h n
/-- a reference or null -/
def gA (Q : Value → g_P → Nat → Prop) : g_Q := fun v h n => ∃ x : Value, v = some x ∧ (x = .null ∨ ∃ a, x = .ref a) ∧ Q x h n
/-- never thrown -/
def gN : g_X := fun _ _ _ => False
section
variable {K : g_K} {M : g_M} {d bc bs : Nat} {P : g_Q} {X : g_X} {pc : Nat} {L : List (Option Value)} {st : List Value} {h : g_P} {n : Nat}
theorem g_fin {p : Program} {e : Env} {R : Room} {s : State} {m : MethodId} {args : Array Value} {below : List Frame} {meth : Method} {c : Code} {H : Heap} {locs : List Loc} {cells slots mc ms : Nat} {g : JFrame} {v : Option Value} (hP : P v h n) (hR : g_RH K H h n)
    (k : W p (k_l K) e R s m args below meth c H locs cells slots (MQ below (fun _ _ o t => o = .returned v ∧ t.heap = H) args s mc ms (fun q => k_b K ≤ q)) g) : W p (k_l K) e R s m args below meth c H locs cells slots (g_MQ K P X below s mc ms) g := by
  intro T hT Z
  obtain ⟨t, a, o, b1, b2, ⟨rfl, hh⟩, F, b4, b5⟩ := k T hT Z
  exact ⟨t, a, _, b1, b2, Or.inl ⟨v, h, n, rfl, hP, by rw [hh]; exact hR, F, b4, b5⟩⟩
theorem r_ireturn {Q : Int32 → g_P → Nat → Prop} {v : Int32} {ty : FieldType} (hd : decode M.2.1 pc = .ok (.ireturn, 1)) (hr : M.2.2.2.1 = some ty) (hn : narrow ty (.int v) = .int v) (hp : Q v h n) : g_G K M d bc bs (gI Q) X pc L [.int v] h n := by
  intro p e R s m args below meth c H locs cells slots ls hM h1 h2 h3 h4 hR hl hs
  refine W.widen (k := R.cells) (n := R.slots) (by omega) (by omega) ?_
  refine g_fin (v := some (.int v)) ⟨v, rfl, hp⟩ hR ?_
  exact W.zret (Qc := fun _ _ o t => o = .returned (some (.int v)) ∧ t.heap = H) hM.1 hM.2.1 (hM.2.2.2.1.trans hr) hn (fun t ht hW => ⟨rfl, ht⟩) hl hd hM.2.2.2.2.2.2.1
theorem r_lreturn {Q : Int64 → g_P → Nat → Prop} {v : Int64} (hd : decode M.2.1 pc = .ok (.lreturn, 1)) (hr : M.2.2.2.1 = some .long) (hp : Q v h n) : g_G K M d bc bs (gJ Q) X pc L [.long v] h n := by
  intro p e R s m args below meth c H locs cells slots ls hM h1 h2 h3 h4 hR hl hs
  refine W.widen (k := R.cells) (n := R.slots) (by omega) (by omega) ?_
  refine g_fin (v := some (.long v)) ⟨v, rfl, hp⟩ hR ?_
  exact W.lret (Qc := fun _ _ o t => o = .returned (some (.long v)) ∧ t.heap = H) hM.1 hM.2.1 (hM.2.2.2.1.trans hr) (fun t ht hW => ⟨rfl, ht⟩) hl hd hM.2.2.2.2.2.2.1
theorem r_freturn {Q : UInt32 → g_P → Nat → Prop} {v : UInt32} (hd : decode M.2.1 pc = .ok (.freturn, 1)) (hr : M.2.2.2.1 = some .float) (hp : Q v h n) : g_G K M d bc bs (gF Q) X pc L [.float v] h n := by
  intro p e R s m args below meth c H locs cells slots ls hM h1 h2 h3 h4 hR hl hs
  refine W.widen (k := R.cells) (n := R.slots) (by omega) (by omega) ?_
  refine g_fin (v := some (.float v)) ⟨v, rfl, hp⟩ hR ?_
  exact W.fret (Qc := fun _ _ o t => o = .returned (some (.float v)) ∧ t.heap = H) hM.1 hM.2.1 (hM.2.2.2.1.trans hr) (fun t ht hW => ⟨rfl, ht⟩) hl hd hM.2.2.2.2.2.2.1
theorem r_dreturn {Q : UInt64 → g_P → Nat → Prop} {v : UInt64} (hd : decode M.2.1 pc = .ok (.dreturn, 1)) (hr : M.2.2.2.1 = some .double) (hp : Q v h n) : g_G K M d bc bs (gD Q) X pc L [.double v] h n := by
  intro p e R s m args below meth c H locs cells slots ls hM h1 h2 h3 h4 hR hl hs
  refine W.widen (k := R.cells) (n := R.slots) (by omega) (by omega) ?_
  refine g_fin (v := some (.double v)) ⟨v, rfl, hp⟩ hR ?_
  exact W.dret (Qc := fun _ _ o t => o = .returned (some (.double v)) ∧ t.heap = H) hM.1 hM.2.1 (hM.2.2.2.1.trans hr) (fun t ht hW => ⟨rfl, ht⟩) hl hd hM.2.2.2.2.2.2.1
theorem r_areturn {Q : Value → g_P → Nat → Prop} {v : Value} {rt : FieldType} (hd : decode M.2.1 pc = .ok (.areturn, 1)) (hr : M.2.2.2.1 = some rt) (hrt : (∃ n, rt = .object n) ∨ ∃ t, rt = .array t) (hv : v = .null ∨ ∃ a, v = .ref a) (hp : Q v h n) : g_G K M d bc bs (gA Q) X pc L [v] h n := by
  intro p e R s m args below meth c H locs cells slots ls hM h1 h2 h3 h4 hR hl hs
  refine W.widen (k := R.cells) (n := R.slots) (by omega) (by omega) ?_
  refine g_fin (v := some v) ⟨v, rfl, hv, hp⟩ hR ?_
  exact W.aret (Qc := fun _ _ o t => o = .returned (some v) ∧ t.heap = H) hM.1 hM.2.1 (hM.2.2.2.1.trans hr) hrt hv (fun t ht hW => ⟨rfl, ht⟩) hl hd hM.2.2.2.2.2.2.1
theorem r_return {Q : g_P → Nat → Prop} (hd : decode M.2.1 pc = .ok (.return_, 1)) (hr : M.2.2.2.1 = none) (hp : Q h n) : g_G K M d bc bs (gV Q) X pc L [] h n := by
  intro p e R s m args below meth c H locs cells slots ls hM h1 h2 h3 h4 hR hl hs
  refine W.widen (k := R.cells) (n := R.slots) (by omega) (by omega) ?_
  refine g_fin (v := none) ⟨rfl, hp⟩ hR ?_
  exact W.vret (Qc := fun _ _ o t => o = .returned none ∧ t.heap = H) hM.1 hM.2.1 (hM.2.2.2.1.trans hr) (fun t ht hW => ⟨rfl, ht⟩) hl hd hM.2.2.2.2.2.2.1
-- throws
theorem r_athrow {q : Nat} (hd : decode M.2.1 pc = .ok (.athrow, 1)) (k : g_GX K M d bc bs P X pc L h n q) : g_G K M d bc bs P X pc L (.ref q :: st) h n := by
  intro p e R s m args below meth c H locs cells slots ls hM h1 h2 h3 h4 hR hl hs
  exact vx_athrow hM.1 hM.2.1 hd (k p e R s m args below meth c H locs cells slots ls st hM h1 h2 h3 h4 hR hl hs)
/-- no handler takes it: it leaves the method -/
theorem r_out {q : Nat} (ho : ∀ x ∈ tableOf M.2.2.2.2, covers x pc = false) (hx : X q h n) : g_GX K M d bc bs P X pc L h n q := by
  intro p e R s m args below meth c H locs cells slots ls rest hM h1 h2 h3 h4 hR hl hs T hT Z
  obtain ⟨st1, hrun, hend, hW, hsm⟩ := Z.leaveThrown q (g := F0 m pc ls rest) rfl rfl rfl (by rw [hM.2.2.2.2.2.2.2.1]; exact ho) hM.2.2.2.2.2.2.1
  exact ⟨_, st1, .threw q, hrun, hend, Or.inr ⟨q, h, n, rfl, hx, by show g_RH K T.heap h n; rw [hT]; exact hR, hW, locs, hsm.mono (by omega) (by omega), hl⟩⟩
/-- a handler takes it; the rows ahead of it don't -/
theorem r_catch {E nm : String} {T0 : u_T} {N ci : Nat} {fs : List Value} {q : Nat} (pre : List ExceptionTableEntry) (x : ExceptionTableEntry) (suf : List ExceptionTableEntry) (hsplit : tableOf M.2.2.2.2 = pre ++ x :: suf)
    (hpass : ∀ z ∈ pre, covers z pc = false ∨ (z.catchType ≠ 0 ∧ ∃ nm : String, Cond.classLink M.1.cls z.catchType nm ∈ lw_all ∧ (E, nm) ∈ k_n K)) (hcov : covers x pc = true) (h0 : x.catchType ≠ 0) (hlink : Cond.classLink M.1.cls x.catchType nm ∈ lw_all) (hcast : Cond.castable E nm ∈ lw_tbl)
    (hc : g_CL[ci]? = some (E, T0, N)) (hq : h q = some (g_ob ci fs)) (k : g_G K M d bc bs P X x.handlerPc L [.ref q] h n) : g_GX K M d bc bs P X pc L h n q := by
  intro p e R s m args below meth c H locs cells slots ls rest hM h1 h2 h3 h4 hR hl hs
  have hKN := hM.2.2.2.2.2.2.2.2.1
  have hts := g_all hKN args
  obtain ⟨r, w1, -, cell, w2, w3, w4, -⟩ := hR.2.2.1 q _ hq
  have hr : r = (E, T0, N) := Option.some.inj (w1.symm.trans hc)
  subst hr
  refine vx_catch hM.2.2.2.2.1 pre x suf (by rw [hM.2.2.2.2.2.2.2.1]; exact hsplit) (fun z hz => ?_) hcov h0 (hts _ hlink) (hKN.word hcast rfl args) w2 w4 (by rw [w3]; exact (hKN.1 ci _ hc).2.1) (k p e R s m args below meth c H locs cells slots ls hM h1 h2 h3 h4 hR hl hs)
  rcases hpass z hz with g1 | ⟨g1, nm', g2, g3⟩
  · exact Or.inl g1
  · exact Or.inr ⟨g1, nm', hts _ g2, hKN.2.2.2.2.2.1 _ g3⟩
/-- a handler that takes all -/
theorem r_catchAll {E : String} {T0 : u_T} {N ci : Nat} {fs : List Value} {q : Nat} (pre : List ExceptionTableEntry) (x : ExceptionTableEntry) (suf : List ExceptionTableEntry) (hsplit : tableOf M.2.2.2.2 = pre ++ x :: suf)
    (hpass : ∀ z ∈ pre, covers z pc = false ∨ (z.catchType ≠ 0 ∧ ∃ nm : String, Cond.classLink M.1.cls z.catchType nm ∈ lw_all ∧ (E, nm) ∈ k_n K)) (hcov : covers x pc = true) (h0 : x.catchType = 0)
    (hc : g_CL[ci]? = some (E, T0, N)) (hq : h q = some (g_ob ci fs)) (k : g_G K M d bc bs P X x.handlerPc L [.ref q] h n) : g_GX K M d bc bs P X pc L h n q := by
  intro p e R s m args below meth c H locs cells slots ls rest hM h1 h2 h3 h4 hR hl hs T hT Z
  have hKN := hM.2.2.2.2.2.2.2.2.1
  have hts := g_all hKN args
  obtain ⟨r, w1, -, cell, w2, w3, w4, -⟩ := hR.2.2.1 q _ hq
  have hr : r = (E, T0, N) := Option.some.inj (w1.symm.trans hc)
  subst hr
  have hpl : e.platform.magicAccessors = ({} : Platform).magicAccessors := by rw [Z.admits.platform]
  have hcl : s.vm.findClass E = some cell.cls := by rw [w3]; exact (hKN.1 ci _ hc).2.1
  obtain ⟨vm', Z', st9⟩ := Z.thenCaughtThrough q (g := F0 m pc ls rest) rfl (Steps.refl _) (by rw [hT]; exact w2) (by rw [w4]; rfl) (by obtain ⟨k9, h9, -⟩ := Vm.findClass_spec hcl; exact ⟨k9, h9⟩) pre x suf (by rw [hM.2.2.2.2.2.2.2.1]; exact hsplit)
    (fun z hz => by
      rcases hpass z hz with g1 | ⟨hz0, nm, hl1, hn1⟩
      · exact Or.inl g1
      · obtain ⟨c6, hc6, hcl6⟩ := Cond.classLink_spec hM.2.2.2.2.1 (hts _ hl1) e.platform hpl
        obtain ⟨a8, b8, f1, f2, f3⟩ := hKN.2.2.2.2.2.1 _ hn1
        cases Option.some.inj (f1.symm.trans hcl)
        cases Option.some.inj (f2.symm.trans hc6)
        exact Or.inr ⟨hz0, _, hcl6, f3⟩) hcov (Or.inl h0)
  obtain ⟨t, a1, b1⟩ := k p e R s m args below meth c H locs cells slots ls hM h1 h2 h3 h4 hR hl hs (T.setVm vm') hT Z'
  exact ⟨t, st9.trans a1, b1⟩
end
-- a call's premise
def g_Pre (K : g_K) (R : Room) (bc bs : Nat) (av : List Value) (h : g_P) (n : Nat) : Pt → Array Value → Prop := fun A a => a = av.toArray ∧ A.cells + bc ≤ R.cells ∧ A.slots + bs ≤ R.slots ∧ g_RH K A.U.heap h n
def g_Post (K : g_K) (bc bs : Nat) (P : g_Q) : Pt → Array Value → Option Value → Pt → Prop := fun A _ v B => ∃ (h : g_P) (n : Nat), P v h n ∧ g_RH K B.U.heap h n ∧ ∃ L, B.locs = A.locs ++ L ∧ (∀ q ∈ L, k_b K ≤ q.base) ∧ B.cells = A.cells + bc ∧ B.slots = A.slots + bs
def g_PostX (K : g_K) (bc bs : Nat) (X : g_X) : Pt → Array Value → Addr → Pt → Prop := fun A _ q B => ∃ (h : g_P) (n : Nat), X q h n ∧ g_RH K B.U.heap h n ∧ ∃ L, B.locs = A.locs ++ L ∧ (∀ q ∈ L, k_b K ≤ q.base) ∧ B.cells = A.cells + bc ∧ B.slots = A.slots + bs
theorem g_back {K : g_K} {R : Room} {p : Program} {e : Env} {below : List Frame} {s : State} {sargs : Array Value} {len W9 : Nat} {M : g_M} {d bc bs : Nat} {av : List Value} {h : g_P} {n : Nat} {P : g_Q} {X : g_X}
    (hM : g_Met K M d bc bs av h n P X) (hKN : g_KN K s) (hcw : g_cw M ∈ lw_tbl) (hini : Cond.initialized M.1.cls ∈ lw_all) (hframes : d + 1 ≤ R.frames) (hlocals : W9 + (M.2.2.1 + 11) + (64 * d + 20000) ≤ R.locals) :
    vx_Back (k_l K) R p e below s sargs M.1 len W9 (g_Pre K R bc bs av h n) (g_Post K bc bs P) (g_PostX K bc bs X) := by
  intro m meth c A g ig mk a Z hg hsize hdg hW hn hp
  obtain ⟨rfl, hp1, hp2, hp3⟩ := hp
  obtain ⟨U, Ls, c0, s0⟩ := A
  dsimp only [Pt.U, Pt.locs, Pt.cells, Pt.slots] at hp1 hp2 hp3 Z hn ⊢
  have hKU : g_KN K U := hKN.warm Z.warmed
  have hcwd : g_wd (g_cw M) = true := by
    have h9 := g_cw_onTables M
    unfold g_cw at h9 ⊢
    split <;> rfl
  have h2 : (g_cw M).before av.toArray U = true := hKU.word hcw hcwd _
  have h1 : (headSpec [g_cw M] (g_rm d bc bs)).pre.before av.toArray U = true := atoms_intro fun w hw => by
    rw [List.mem_singleton.mp hw]
    exact h2
  have h3 : (Cond.initialized M.1.cls).before av.toArray U = true := g_all hKU _ _ hini
  obtain ⟨methY, cY, hmY, hcY, -, hlY, -, -, -, -⟩ := g_cw_spec hn h2
  obtain ⟨kY, hkY, -⟩ := className_of_methodNamed hn
  have hinitY : kY.init = .initialized := Cond.initialized_spec (findClass_of_methodNamed hn) hkY h3
  have hA : At U g.method c below := by rw [hg]; exact Z.here
  have happ : (headSpec [g_cw M] (g_rm d bc bs)).appliesLoose M.1 e.platform (U.calling g mk av.toArray) = true :=
    Spec.appliesLoose_calling (g := g) hA hdg hn hkY hinitY
      (Z.room_calling (g := g) (R' := (headSpec [g_cw M] (g_rm d bc bs)).room) hsize hmY hcY hframes (by rw [hlY]; show _ + _ + (64 * d + 20000) ≤ _; omega) hp1 hp2) h1
  obtain ⟨mid, hmid⟩ := hA.above
  have hfr : (U.setTop g).frames = (.java g :: mid) ++ below := by rw [State.frames_setTop' g hA.top, hmid]; rfl
  have hPc : av.toArray = av.toArray ∧ g_KN K (U.calling g mk av.toArray) ∧ g_RH K (U.calling g mk av.toArray).heap h n := ⟨rfl, hKN.warm (U := U.calling g mk av.toArray) Z.warmed, hp3⟩
  obtain ⟨o, s₂, hsteps, -, hend, hq⟩ := Steps.callFree hM p Z.admits Z.cas Z.clock (acts := []) hfr happ hPc trivial
  have hq' : g_end K P X (U.calling g mk av.toArray) s₂ o bc bs := hq
  rw [State.frames_setTop' g hA.top] at hend
  obtain ⟨g₀, hg0⟩ := Option.isSome_iff_exists.mp hA.top
  obtain ⟨r, hr⟩ := State.topJava?_eq_some.mp hg0
  have hr' : (({ U with heap := s₂.heap, slotsUsed := s₂.slotsUsed } : State).setVm s₂.vm).frames = .java g₀ :: r := hr
  rcases hq' with ⟨v, h', n', rfl, hpo, hRo, Lo, hfe, hLo⟩ | ⟨q, h', n', rfl, hpo, hRo, hW₂, Lo, hsm, hLo⟩
  · obtain ⟨-, hW₂, e2, q2, q3, q4, q5, q6⟩ := id hfe
    have e3 : s₂ = ({ (U.calling g mk av.toArray).setFrames s₂.frames with heap := s₂.heap, slotsUsed := s₂.slotsUsed } : State).setVm s₂.vm := by
      have : s₂ = ({ s₂ with vm := (U.calling g mk av.toArray).vm } : State).setVm s₂.vm := rfl
      rw [e2] at this
      exact this
    obtain ⟨c₂, i₂, len₂, hc₂, hd₂, hf₂⟩ := hend
    have hW' : U.WarmedH s₂.vm := hW₂
    have hcc : c₂ = c := by
      have h1 : s₂.code? g.method = U.code? g.method := by
        rw [State.code?_eq, State.code?_eq, hW'.alike.method?]
      exact Option.some.inj (hc₂.symm.trans (h1.trans hA.code))
    subst hcc
    have hlen : len₂ = len := by rw [hdg] at hd₂; cases hd₂; rfl
    subst hlen
    have hs₂ : s₂ = (({ U with heap := s₂.heap, slotsUsed := s₂.slotsUsed } : State).setVm s₂.vm).setTop { g with pc := g.pc + len₂, stack := v.toList ++ g.stack } := by
      refine e3.trans ?_
      rw [hf₂, State.calling_eq hA.top, State.setFrames_setFrames, State.setTop_of_frames _ hr', hr]
      rfl
    have hsame : U.sameButNew ({ U with heap := s₂.heap, slotsUsed := s₂.slotsUsed } : State) Lo bc bs := by
      refine ⟨?_, q2, q3, q4, q5, q6⟩
      obtain ⟨t, ht, -⟩ := State.frames_cons hr
      show ({ U with heap := s₂.heap, slotsUsed := s₂.slotsUsed } : State) = { U.setFrames U.frames with heap := s₂.heap, slotsUsed := s₂.slotsUsed }
      rw [State.setFrames_self ht]
    subst hg
    refine Or.inl ⟨v, ⟨(({ U with heap := s₂.heap, slotsUsed := s₂.slotsUsed } : State).setVm s₂.vm), Ls ++ Lo, c0 + bc, s0 + bs⟩,
      ⟨Z.admits, Z.cas, Z.clock, Z.frames, Z.room, Z.hears, Z.method, Z.code, (Z.here.setHeapUsed s₂.heap s₂.slotsUsed).setVm hW'.alike, Z.tail, State.WarmedH.trans Z.warmed hW', Z.limits, Z.bytes, Z.same.trans (hsame.setVm s.vm)⟩,
      ⟨h', n', hpo, hRo, Lo, rfl, hLo, rfl, rfl⟩, ?_⟩
    show Steps p.tables e below _ ((({ U with heap := s₂.heap, slotsUsed := s₂.slotsUsed } : State).setVm s₂.vm).setTop { g with pc := g.pc + len₂, stack := v.toList ++ g.stack })
    rw [← hs₂]
    exact hsteps
  · obtain ⟨e2, q2, q3, q4, q5, q6⟩ := id hsm
    have e3 : s₂ = ({ (U.calling g mk av.toArray).setFrames s₂.frames with heap := s₂.heap, slotsUsed := s₂.slotsUsed } : State).setVm s₂.vm := by
      have : s₂ = ({ s₂ with vm := (U.calling g mk av.toArray).vm } : State).setVm s₂.vm := rfl
      rw [e2] at this
      exact this
    have hf₂ : s₂.frames = .throwing q :: .java g :: U.frames.tail := hend
    have hW' : U.WarmedH s₂.vm := hW₂
    have hs₂ : s₂ = ((({ U with heap := s₂.heap, slotsUsed := s₂.slotsUsed } : State).setVm s₂.vm).setTop g).pushFrame (.throwing q) := by
      refine e3.trans ?_
      rw [hf₂, State.calling_eq hA.top, State.setFrames_setFrames, State.pushFrame, State.frames_setTop _ hr', State.setTop_of_frames _ hr', State.setFrames_setFrames, hr]
      rfl
    have hsame : U.sameButNew ({ U with heap := s₂.heap, slotsUsed := s₂.slotsUsed } : State) Lo bc bs := by
      refine ⟨?_, q2, q3, q4, q5, q6⟩
      obtain ⟨t, ht, -⟩ := State.frames_cons hr
      show ({ U with heap := s₂.heap, slotsUsed := s₂.slotsUsed } : State) = { U.setFrames U.frames with heap := s₂.heap, slotsUsed := s₂.slotsUsed }
      rw [State.setFrames_self ht]
    subst hg
    refine Or.inr ⟨q, ⟨(({ U with heap := s₂.heap, slotsUsed := s₂.slotsUsed } : State).setVm s₂.vm), Ls ++ Lo, c0 + bc, s0 + bs⟩,
      ⟨Z.admits, Z.cas, Z.clock, Z.frames, Z.room, Z.hears, Z.method, Z.code, (Z.here.setHeapUsed s₂.heap s₂.slotsUsed).setVm hW'.alike, Z.tail, State.WarmedH.trans Z.warmed hW', Z.limits, Z.bytes, Z.same.trans (hsame.setVm s.vm)⟩,
      ⟨h', n', hpo, hRo, Lo, rfl, hLo, rfl, rfl⟩, ?_⟩
    show Steps p.tables e below _ (((({ U with heap := s₂.heap, slotsUsed := s₂.slotsUsed } : State).setVm s₂.vm).setTop g).pushFrame (.throwing q))
    rw [← hs₂]
    exact hsteps
section
variable {K : g_K} {M : g_M} {d bc bs : Nat} {P : g_Q} {X : g_X} {pc : Nat} {L : List (Option Value)} {st : List Value} {h : g_P} {n : Nat}
/-- behind a call -/
theorem g_after {p : Program} {e : Env} {R : Room} {s : State} {m : MethodId} {args : Array Value} {below : List Frame} {meth : Method} {c : Code} {T : State} {locs : List Loc} {cells slots len : Nat} {ls : Array Slot} {st0 : List Value} {d' bc' bs' : Nat} {P' : g_Q} {X' : g_X} {av : Array Value}
    (hM : g_MC K M p s m meth c) (g1 : d ≤ R.frames) (g2 : 64 * d + 20000 ≤ R.locals) (g3 : cells + bc ≤ R.cells) (g4 : slots + bs ≤ R.slots) (hl : ∀ z ∈ locs, k_b K ≤ z.base) (hs : g_has ls L) (hc : bc' ≤ bc) (hsl : bs' ≤ bs)
    (kn : ∀ (v : Option Value) (h' : g_P) (n' : Nat), P' v h' n' → g_G K M d (bc - bc') (bs - bs') P X (pc + len) L (v.toList ++ st) h' n') (kx : ∀ (q : Nat) (h' : g_P) (n' : Nat), X' q h' n' → g_GX K M d (bc - bc') (bs - bs') P X pc L h' n' q)
    (hr : (∃ (v : Option Value) (vm₁ : Vm) (B : Pt), s.WarmedH vm₁ ∧ Stand p (k_l K) e R s m args below meth c B.U B.locs B.cells B.slots ∧ g_Post K bc' bs' P' ⟨T.setVm vm₁, locs, cells, slots⟩ av v B ∧
      ∀ target, Steps p.tables e below (B.U.setTop { F0 m pc ls st0 with pc := pc + len, stack := v.toList ++ st }) target → Steps p.tables e below (T.setTop (F0 m pc ls st0)) target) ∨
    (∃ (q : Addr) (vm₁ : Vm) (B : Pt), s.WarmedH vm₁ ∧ Stand p (k_l K) e R s m args below meth c B.U B.locs B.cells B.slots ∧ g_PostX K bc' bs' X' ⟨T.setVm vm₁, locs, cells, slots⟩ av q B ∧
      Steps p.tables e below (T.setTop (F0 m pc ls st0)) ((B.U.setTop { F0 m pc ls st0 with stack := st }).pushFrame (.throwing q)))) :
    ∃ t, Steps p.tables e below (T.setTop (F0 m pc ls st0)) t ∧ g_MQ K P X below s R.cells R.slots t := by
  rcases hr with ⟨v, vm₁, ⟨U, l2, c2, s2⟩, hW, Z, ⟨h', n', hp, hR, Lo, e1, e2, e3, e4⟩, hst⟩ | ⟨q, vm₁, ⟨U, l2, c2, s2⟩, hW, Z, ⟨h', n', hp, hR, Lo, e1, e2, e3, e4⟩, hst⟩
  · dsimp only [Pt.U, Pt.locs, Pt.cells, Pt.slots] at Z hR e1 e3 e4 hst
    subst e1; subst e3; subst e4
    obtain ⟨t, a1, b1⟩ := kn v h' n' hp p e R s m args below meth c U.heap (locs ++ Lo) (cells + bc') (slots + bs') ls hM g1 g2 (by omega) (by omega) hR (fun z hz => (List.mem_append.mp hz).elim (hl z) (e2 z)) hs U rfl Z
    exact ⟨t, hst t a1, b1⟩
  · dsimp only [Pt.U, Pt.locs, Pt.cells, Pt.slots] at Z hR e1 e3 e4 hst
    subst e1; subst e3; subst e4
    obtain ⟨t, a1, b1⟩ := kx q h' n' hp p e R s m args below meth c U.heap (locs ++ Lo) (cells + bc') (slots + bs') ls st hM g1 g2 (by omega) (by omega) hR (fun z hz => (List.mem_append.mp hz).elim (hl z) (e2 z)) hs U rfl Z
    exact ⟨t, hst.trans a1, b1⟩
def g_pl (y : MethodName) (k : Nat) : Prop := y.cls ≠ "java/lang/invoke/MethodHandle" ∧ y.cls ≠ "java/lang/invoke/VarHandle" ∧ (parseMethodDescriptor y.desc).map (fun d => d.parameters.length) = some k
theorem g_pl_len {y : MethodName} {k : Nat} (h : g_pl y k) (sig : MethodDescriptor) (e : parseMethodDescriptor y.desc = some sig) : k = sig.parameters.length := by
  have h2 := h.2.2
  rw [e] at h2
  exact (Option.some.inj h2).symm
theorem g_recv {s : State} {H : Heap} (hKN : g_KN K s) (hR : g_RH K H h n) {ci b : Nat} {C : String} {T : u_T} {N : Nat} {fs : List Value} (hc : g_CL[ci]? = some (C, T, N)) (ho : h b = some (g_ob ci fs)) : ∃ cell : Cell, H[b]? = some cell ∧ cell.vm.isStatics = false ∧ s.vm.findClass C = some cell.cls := by
  obtain ⟨r, w1, -, cell, w2, w3, w4, -⟩ := hR.2.2.1 b _ ho
  have hr : r = (C, T, N) := Option.some.inj (w1.symm.trans hc)
  subst hr
  exact ⟨cell, w2, by rw [w4]; rfl, by rw [w3]; exact (hKN.1 ci _ hc).2.1⟩
theorem g_cwC {M' : g_M} (h : M'.2.2.2.2 = []) {s : State} {args : Array Value} (hw : (g_cw M').before args s = true) : (Cond.code M'.1 M'.2.1 M'.2.2.1 M'.2.2.2.1).before args s = true := by
  unfold g_cw at hw
  rw [h] at hw
  exact hw
theorem g_cwd (M' : g_M) : g_wd (g_cw M') = true := by
  unfold g_cw
  split <;> rfl
end
section
variable {K : g_K} {M : g_M} {d bc bs : Nat} {P : g_Q} {X : g_X} {pc : Nat} {L : List (Option Value)} {st : List Value} {h : g_P} {n : Nat}
theorem g_decl {s : State} (hKN : g_KN K s) {y : MethodName} (hd : (Cond.instanceMethod y ∈ lw_all ∧ ∃ b m r, Cond.code y b m r ∈ lw_all) ∨ Cond.declares y ∈ lw_tbl) : va_Decl s y := by
  rcases hd with ⟨h1, b, m, r, h2⟩ | h1
  · exact va_Decl.of (g_all hKN #[] _ h1) (g_all hKN #[] _ h2)
  · exact va_Decl.abs (hKN.word h1 rfl #[])
theorem r_callV {st0 : List Value} {M' : g_M} {C : String} {T0 : u_T} {N ci : Nat} {fs : List Value} {index d' bc' bs' : Nat} {P' : g_Q} {X' : g_X} (As : List Value) {b : Nat} (hd : decode M.2.1 pc = .ok (.invokevirtual index, 3)) (hlink : Cond.methodLink M.1.cls index M'.1 ∈ lw_all) (hin : Cond.instanceMethod M'.1 ∈ lw_all) (hse : Cond.selects C M'.1 M'.1 ∈ lw_all) (hh : M'.2.2.2.2 = []) (hcw : g_cw M' ∈ lw_tbl) (hini : Cond.initialized M'.1.cls ∈ lw_all) (hpl : g_pl M'.1 As.length) (hcc : g_CL[ci]? = some (C, T0, N)) (ho : h b = some (g_ob ci fs))
    (hM : g_Met K M' d' bc' bs' (.ref b :: As) h n P' X') (hd1 : d' + 1 ≤ d) (hml : M'.2.2.1 ≤ 40) (hc : bc' ≤ bc) (hsl : bs' ≤ bs) (hL : L.length = M.2.2.1) (hw : (st.map fun v => v.category).sum ≤ 8) (hst : st0 = As.reverse ++ .ref b :: st)
    (kn : ∀ (v : Option Value) (h' : g_P) (n' : Nat), P' v h' n' → g_G K M d (bc - bc') (bs - bs') P X (pc + 3) L (v.toList ++ st) h' n') (kx : ∀ (q : Nat) (h' : g_P) (n' : Nat), X' q h' n' → g_GX K M d (bc - bc') (bs - bs') P X pc L h' n' q) :
    g_G K M d bc bs P X pc L st0 h n := by
  subst hst
  intro p e R s m args below meth c H locs cells slots ls hC g1 g2 g3 g4 hR hl hs T hT Z
  have hKN := hC.2.2.2.2.2.2.2.2.1
  have hts := g_all hKN args
  have hcode := hKN.word hcw (g_cwd M') args
  have hsz : ls.size = c.maxLocals := by rw [hs.1, hL, hC.2.2.1]
  obtain ⟨cellB, w1, w2, w3⟩ := g_recv hKN hR hcc ho
  have hK := g_back (R := R) (p := p) (e := e) (below := below) (s := s) (sargs := args) (len := 3) (W9 := 8) hM hKN hcw hini (by omega) (by omega)
  have hpre : ∀ vm₁, s.WarmedH vm₁ → g_Pre K R bc' bs' (.ref b :: As) h n ⟨T.setVm vm₁, locs, cells, slots⟩ ((.ref b :: As)).toArray := fun vm₁ _ => ⟨rfl, by show cells + bc' ≤ _; omega, by show slots + bs' ≤ _; omega, by show g_RH K T.heap h n; rw [hT]; exact hR⟩
  refine g_after (args := args) (d' := d') (av := ((.ref b :: As)).toArray) (st := st) (len := 3) hC g1 g2 g3 g4 hl hs hc hsl kn kx ?_
  exact vx_callV Z hC.1 hC.2.2.2.2.1 (hts _ hlink) (hts _ hin) (hts _ hse) (g_cwC hh hcode) ⟨hpl.1, hpl.2.1⟩ hK (by rw [hT]; exact w1) w2 w3 (g := F0 m pc ls (As.reverse ++ .ref b :: st)) rfl hsz (argsL := As) (rest := st) (fun sig he => g_pl_len hpl sig he) rfl (lv_room hw) (by rw [hC.2.1]; exact hd) hpre
theorem r_callS {st0 : List Value} {M' : g_M} {index d' bc' bs' : Nat} {P' : g_Q} {X' : g_X} (As : List Value) (hd : decode M.2.1 pc = .ok (.invokestatic index, 3)) (hlink : Cond.methodLink M.1.cls index M'.1 ∈ lw_all) (hin : Cond.static M'.1 ∈ lw_all) (hh : M'.2.2.2.2 = []) (hcw : g_cw M' ∈ lw_tbl) (hini : Cond.initialized M'.1.cls ∈ lw_all) (hpl : g_pl M'.1 As.length) 
    (hM : g_Met K M' d' bc' bs' As h n P' X') (hd1 : d' + 1 ≤ d) (hml : M'.2.2.1 ≤ 40) (hc : bc' ≤ bc) (hsl : bs' ≤ bs) (hL : L.length = M.2.2.1) (hw : (st.map fun v => v.category).sum ≤ 8) (hst : st0 = As.reverse ++ st)
    (kn : ∀ (v : Option Value) (h' : g_P) (n' : Nat), P' v h' n' → g_G K M d (bc - bc') (bs - bs') P X (pc + 3) L (v.toList ++ st) h' n') (kx : ∀ (q : Nat) (h' : g_P) (n' : Nat), X' q h' n' → g_GX K M d (bc - bc') (bs - bs') P X pc L h' n' q) :
    g_G K M d bc bs P X pc L st0 h n := by
  subst hst
  intro p e R s m args below meth c H locs cells slots ls hC g1 g2 g3 g4 hR hl hs T hT Z
  have hKN := hC.2.2.2.2.2.2.2.2.1
  have hts := g_all hKN args
  have hcode := hKN.word hcw (g_cwd M') args
  have hsz : ls.size = c.maxLocals := by rw [hs.1, hL, hC.2.2.1]
  have hK := g_back (R := R) (p := p) (e := e) (below := below) (s := s) (sargs := args) (len := 3) (W9 := 8) hM hKN hcw hini (by omega) (by omega)
  have hpre : ∀ vm₁, s.WarmedH vm₁ → g_Pre K R bc' bs' As h n ⟨T.setVm vm₁, locs, cells, slots⟩ (As).toArray := fun vm₁ _ => ⟨rfl, by show cells + bc' ≤ _; omega, by show slots + bs' ≤ _; omega, by show g_RH K T.heap h n; rw [hT]; exact hR⟩
  refine g_after (args := args) (d' := d') (av := (As).toArray) (st := st) (len := 3) hC g1 g2 g3 g4 hl hs hc hsl kn kx ?_
  exact vx_callS Z hC.1 hC.2.2.2.2.1 (hts _ hlink) (hts _ hin) (hts _ hini) (g_cwC hh hcode) ⟨hpl.1, hpl.2.1⟩ hK (g := F0 m pc ls (As.reverse ++ st)) rfl hsz (argsL := As) (rest := st) (fun sig he => g_pl_len hpl sig he) rfl (lv_room hw) (by rw [hC.2.1]; exact hd) hpre
theorem r_callI {st0 : List Value} {M' : g_M} {index d' bc' bs' : Nat} {P' : g_Q} {X' : g_X} (As : List Value) {b : Nat} (hd : decode M.2.1 pc = .ok (.invokespecial index, 3)) (hlink : Cond.methodLink M.1.cls index M'.1 ∈ lw_all) (hin : Cond.instanceMethod M'.1 ∈ lw_all) (hnm : M'.1.name = "<init>") (hret : M'.2.2.2.1 = none) (hh : M'.2.2.2.2 = []) (hcw : g_cw M' ∈ lw_tbl) (hini : Cond.initialized M'.1.cls ∈ lw_all) (hpl : g_pl M'.1 As.length) 
    (hM : g_Met K M' d' bc' bs' (.ref b :: As) h n P' X') (hd1 : d' + 1 ≤ d) (hml : M'.2.2.1 ≤ 40) (hc : bc' ≤ bc) (hsl : bs' ≤ bs) (hL : L.length = M.2.2.1) (hw : (st.map fun v => v.category).sum ≤ 8) (hst : st0 = As.reverse ++ .ref b :: st)
    (kn : ∀ (v : Option Value) (h' : g_P) (n' : Nat), P' v h' n' → g_G K M d (bc - bc') (bs - bs') P X (pc + 3) L (v.toList ++ st) h' n') (kx : ∀ (q : Nat) (h' : g_P) (n' : Nat), X' q h' n' → g_GX K M d (bc - bc') (bs - bs') P X pc L h' n' q) :
    g_G K M d bc bs P X pc L st0 h n := by
  subst hst
  intro p e R s m args below meth c H locs cells slots ls hC g1 g2 g3 g4 hR hl hs T hT Z
  have hKN := hC.2.2.2.2.2.2.2.2.1
  have hts := g_all hKN args
  have hcode := hKN.word hcw (g_cwd M') args
  have hsz : ls.size = c.maxLocals := by rw [hs.1, hL, hC.2.2.1]
  have hK := g_back (R := R) (p := p) (e := e) (below := below) (s := s) (sargs := args) (len := 3) (W9 := 8) hM hKN hcw hini (by omega) (by omega)
  have hpre : ∀ vm₁, s.WarmedH vm₁ → g_Pre K R bc' bs' (.ref b :: As) h n ⟨T.setVm vm₁, locs, cells, slots⟩ ((.ref b :: As)).toArray := fun vm₁ _ => ⟨rfl, by show cells + bc' ≤ _; omega, by show slots + bs' ≤ _; omega, by show g_RH K T.heap h n; rw [hT]; exact hR⟩
  refine g_after (args := args) (d' := d') (av := ((.ref b :: As)).toArray) (st := st) (len := 3) hC g1 g2 g3 g4 hl hs hc hsl kn kx ?_
  exact vx_callI Z hC.1 hC.2.2.2.2.1 hnm (hts _ hlink) (hts _ hin) (by rw [← hret]; exact g_cwC hh hcode) ⟨hpl.1, hpl.2.1⟩ hK (g := F0 m pc ls (As.reverse ++ .ref b :: st)) rfl hsz (argsL := As) (rest := st) (fun sig he => g_pl_len hpl sig he) rfl (lv_room hw) (by rw [hC.2.1]; exact hd) hpre
theorem r_callVN {st0 : List Value} {M' : g_M} {C : String} {T0 : u_T} {N ci : Nat} {fs : List Value} {host : String} {index d' bc' bs' : Nat} {P' : g_Q} {X' : g_X} (As : List Value) {b : Nat} (hd : decode M.2.1 pc = .ok (.invokevirtual index, 3)) (hlink : Cond.methodLinkNest M.1.cls index M'.1 host ∈ lw_tbl) (hin : Cond.instanceMethod M'.1 ∈ lw_all) (hse : Cond.selects C M'.1 M'.1 ∈ lw_all) (hh : M'.2.2.2.2 = []) (hcw : g_cw M' ∈ lw_tbl) (hini : Cond.initialized M'.1.cls ∈ lw_all) (hpl : g_pl M'.1 As.length) (hcc : g_CL[ci]? = some (C, T0, N)) (ho : h b = some (g_ob ci fs))
    (hM : g_Met K M' d' bc' bs' (.ref b :: As) h n P' X') (hd1 : d' + 1 ≤ d) (hml : M'.2.2.1 ≤ 40) (hc : bc' ≤ bc) (hsl : bs' ≤ bs) (hL : L.length = M.2.2.1) (hw : (st.map fun v => v.category).sum ≤ 8) (hst : st0 = As.reverse ++ .ref b :: st)
    (kn : ∀ (v : Option Value) (h' : g_P) (n' : Nat), P' v h' n' → g_G K M d (bc - bc') (bs - bs') P X (pc + 3) L (v.toList ++ st) h' n') (kx : ∀ (q : Nat) (h' : g_P) (n' : Nat), X' q h' n' → g_GX K M d (bc - bc') (bs - bs') P X pc L h' n' q) :
    g_G K M d bc bs P X pc L st0 h n := by
  subst hst
  intro p e R s m args below meth c H locs cells slots ls hC g1 g2 g3 g4 hR hl hs T hT Z
  have hKN := hC.2.2.2.2.2.2.2.2.1
  have hts := g_all hKN args
  have hcode := hKN.word hcw (g_cwd M') args
  have hsz : ls.size = c.maxLocals := by rw [hs.1, hL, hC.2.2.1]
  obtain ⟨cellB, w1, w2, w3⟩ := g_recv hKN hR hcc ho
  have hK := g_back (R := R) (p := p) (e := e) (below := below) (s := s) (sargs := args) (len := 3) (W9 := 8) hM hKN hcw hini (by omega) (by omega)
  have hpre : ∀ vm₁, s.WarmedH vm₁ → g_Pre K R bc' bs' (.ref b :: As) h n ⟨T.setVm vm₁, locs, cells, slots⟩ ((.ref b :: As)).toArray := fun vm₁ _ => ⟨rfl, by show cells + bc' ≤ _; omega, by show slots + bs' ≤ _; omega, by show g_RH K T.heap h n; rw [hT]; exact hR⟩
  refine g_after (args := args) (d' := d') (av := ((.ref b :: As)).toArray) (st := st) (len := 3) hC g1 g2 g3 g4 hl hs hc hsl kn kx ?_
  exact vx_callVN Z hC.1 hC.2.2.2.2.1 (hKN.word hlink rfl args) (hts _ hin) (hts _ hse) (g_cwC hh hcode) ⟨hpl.1, hpl.2.1⟩ hK (by rw [hT]; exact w1) w2 w3 (g := F0 m pc ls (As.reverse ++ .ref b :: st)) rfl hsz (argsL := As) (rest := st) (fun sig he => g_pl_len hpl sig he) rfl (lv_room hw) (by rw [hC.2.1]; exact hd) hpre
theorem r_callSN {st0 : List Value} {M' : g_M} {host : String} {index d' bc' bs' : Nat} {P' : g_Q} {X' : g_X} (As : List Value) (hd : decode M.2.1 pc = .ok (.invokestatic index, 3)) (hlink : Cond.methodLinkNest M.1.cls index M'.1 host ∈ lw_tbl) (hin : Cond.static M'.1 ∈ lw_all) (hh : M'.2.2.2.2 = []) (hcw : g_cw M' ∈ lw_tbl) (hini : Cond.initialized M'.1.cls ∈ lw_all) (hpl : g_pl M'.1 As.length) 
    (hM : g_Met K M' d' bc' bs' As h n P' X') (hd1 : d' + 1 ≤ d) (hml : M'.2.2.1 ≤ 40) (hc : bc' ≤ bc) (hsl : bs' ≤ bs) (hL : L.length = M.2.2.1) (hw : (st.map fun v => v.category).sum ≤ 8) (hst : st0 = As.reverse ++ st)
    (kn : ∀ (v : Option Value) (h' : g_P) (n' : Nat), P' v h' n' → g_G K M d (bc - bc') (bs - bs') P X (pc + 3) L (v.toList ++ st) h' n') (kx : ∀ (q : Nat) (h' : g_P) (n' : Nat), X' q h' n' → g_GX K M d (bc - bc') (bs - bs') P X pc L h' n' q) :
    g_G K M d bc bs P X pc L st0 h n := by
  subst hst
  intro p e R s m args below meth c H locs cells slots ls hC g1 g2 g3 g4 hR hl hs T hT Z
  have hKN := hC.2.2.2.2.2.2.2.2.1
  have hts := g_all hKN args
  have hcode := hKN.word hcw (g_cwd M') args
  have hsz : ls.size = c.maxLocals := by rw [hs.1, hL, hC.2.2.1]
  have hK := g_back (R := R) (p := p) (e := e) (below := below) (s := s) (sargs := args) (len := 3) (W9 := 8) hM hKN hcw hini (by omega) (by omega)
  have hpre : ∀ vm₁, s.WarmedH vm₁ → g_Pre K R bc' bs' As h n ⟨T.setVm vm₁, locs, cells, slots⟩ (As).toArray := fun vm₁ _ => ⟨rfl, by show cells + bc' ≤ _; omega, by show slots + bs' ≤ _; omega, by show g_RH K T.heap h n; rw [hT]; exact hR⟩
  refine g_after (args := args) (d' := d') (av := (As).toArray) (st := st) (len := 3) hC g1 g2 g3 g4 hl hs hc hsl kn kx ?_
  exact vx_callSN Z hC.1 hC.2.2.2.2.1 (hKN.word hlink rfl args) (hts _ hin) (hts _ hini) (g_cwC hh hcode) ⟨hpl.1, hpl.2.1⟩ hK (g := F0 m pc ls (As.reverse ++ st)) rfl hsz (argsL := As) (rest := st) (fun sig he => g_pl_len hpl sig he) rfl (lv_room hw) (by rw [hC.2.1]; exact hd) hpre
theorem r_callIN {st0 : List Value} {M' : g_M} {host : String} {index d' bc' bs' : Nat} {P' : g_Q} {X' : g_X} (As : List Value) {b : Nat} (hd : decode M.2.1 pc = .ok (.invokespecial index, 3)) (hlink : Cond.methodLinkNest M.1.cls index M'.1 host ∈ lw_tbl) (hin : Cond.instanceMethod M'.1 ∈ lw_all) (hnm : M'.1.name = "<init>") (hret : M'.2.2.2.1 = none) (hh : M'.2.2.2.2 = []) (hcw : g_cw M' ∈ lw_tbl) (hini : Cond.initialized M'.1.cls ∈ lw_all) (hpl : g_pl M'.1 As.length) 
    (hM : g_Met K M' d' bc' bs' (.ref b :: As) h n P' X') (hd1 : d' + 1 ≤ d) (hml : M'.2.2.1 ≤ 40) (hc : bc' ≤ bc) (hsl : bs' ≤ bs) (hL : L.length = M.2.2.1) (hw : (st.map fun v => v.category).sum ≤ 8) (hst : st0 = As.reverse ++ .ref b :: st)
    (kn : ∀ (v : Option Value) (h' : g_P) (n' : Nat), P' v h' n' → g_G K M d (bc - bc') (bs - bs') P X (pc + 3) L (v.toList ++ st) h' n') (kx : ∀ (q : Nat) (h' : g_P) (n' : Nat), X' q h' n' → g_GX K M d (bc - bc') (bs - bs') P X pc L h' n' q) :
    g_G K M d bc bs P X pc L st0 h n := by
  subst hst
  intro p e R s m args below meth c H locs cells slots ls hC g1 g2 g3 g4 hR hl hs T hT Z
  have hKN := hC.2.2.2.2.2.2.2.2.1
  have hts := g_all hKN args
  have hcode := hKN.word hcw (g_cwd M') args
  have hsz : ls.size = c.maxLocals := by rw [hs.1, hL, hC.2.2.1]
  have hK := g_back (R := R) (p := p) (e := e) (below := below) (s := s) (sargs := args) (len := 3) (W9 := 8) hM hKN hcw hini (by omega) (by omega)
  have hpre : ∀ vm₁, s.WarmedH vm₁ → g_Pre K R bc' bs' (.ref b :: As) h n ⟨T.setVm vm₁, locs, cells, slots⟩ ((.ref b :: As)).toArray := fun vm₁ _ => ⟨rfl, by show cells + bc' ≤ _; omega, by show slots + bs' ≤ _; omega, by show g_RH K T.heap h n; rw [hT]; exact hR⟩
  refine g_after (args := args) (d' := d') (av := ((.ref b :: As)).toArray) (st := st) (len := 3) hC g1 g2 g3 g4 hl hs hc hsl kn kx ?_
  exact vx_callIN Z hC.1 hC.2.2.2.2.1 hnm (hKN.word hlink rfl args) (hts _ hin) (by rw [← hret]; exact g_cwC hh hcode) ⟨hpl.1, hpl.2.1⟩ hK (g := F0 m pc ls (As.reverse ++ .ref b :: st)) rfl hsz (argsL := As) (rest := st) (fun sig he => g_pl_len hpl sig he) rfl (lv_room hw) (by rw [hC.2.1]; exact hd) hpre
theorem r_callVU {st0 : List Value} {M' : g_M} {C : String} {T0 : u_T} {N ci : Nat} {fs : List Value} {x : MethodName} {owner : String} {index d' bc' bs' : Nat} {P' : g_Q} {X' : g_X} (As : List Value) {b : Nat} (hd : decode M.2.1 pc = .ok (.invokevirtual index, 3)) (hlink : Cond.methodLink M.1.cls index x ∈ lw_all) (hsame : Cond.sameMethod x.cls owner x.name x.desc ∈ lw_all) (hdc : (Cond.instanceMethod ⟨owner, x.name, x.desc⟩ ∈ lw_all ∧ ∃ b m r, Cond.code ⟨owner, x.name, x.desc⟩ b m r ∈ lw_all) ∨ Cond.declares ⟨owner, x.name, x.desc⟩ ∈ lw_tbl) (how : owner ≠ "java/lang/invoke/MethodHandle" ∧ owner ≠ "java/lang/invoke/VarHandle") (hse : Cond.selects C x M'.1 ∈ lw_all) (hin : Cond.instanceMethod M'.1 ∈ lw_all) (hh : M'.2.2.2.2 = []) (hcw : g_cw M' ∈ lw_tbl) (hini : Cond.initialized M'.1.cls ∈ lw_all) (hpl : g_pl x As.length) (hcc : g_CL[ci]? = some (C, T0, N)) (ho : h b = some (g_ob ci fs))
    (hM : g_Met K M' d' bc' bs' (.ref b :: As) h n P' X') (hd1 : d' + 1 ≤ d) (hml : M'.2.2.1 ≤ 40) (hc : bc' ≤ bc) (hsl : bs' ≤ bs) (hL : L.length = M.2.2.1) (hw : (st.map fun v => v.category).sum ≤ 8) (hst : st0 = As.reverse ++ .ref b :: st)
    (kn : ∀ (v : Option Value) (h' : g_P) (n' : Nat), P' v h' n' → g_G K M d (bc - bc') (bs - bs') P X (pc + 3) L (v.toList ++ st) h' n') (kx : ∀ (q : Nat) (h' : g_P) (n' : Nat), X' q h' n' → g_GX K M d (bc - bc') (bs - bs') P X pc L h' n' q) :
    g_G K M d bc bs P X pc L st0 h n := by
  subst hst
  intro p e R s m args below meth c H locs cells slots ls hC g1 g2 g3 g4 hR hl hs T hT Z
  have hKN := hC.2.2.2.2.2.2.2.2.1
  have hts := g_all hKN args
  have hcode := hKN.word hcw (g_cwd M') args
  have hsz : ls.size = c.maxLocals := by rw [hs.1, hL, hC.2.2.1]
  obtain ⟨cellB, w1, w2, w3⟩ := g_recv hKN hR hcc ho
  have hK := g_back (R := R) (p := p) (e := e) (below := below) (s := s) (sargs := args) (len := 3) (W9 := 8) hM hKN hcw hini (by omega) (by omega)
  have hpre : ∀ vm₁, s.WarmedH vm₁ → g_Pre K R bc' bs' (.ref b :: As) h n ⟨T.setVm vm₁, locs, cells, slots⟩ ((.ref b :: As)).toArray := fun vm₁ _ => ⟨rfl, by show cells + bc' ≤ _; omega, by show slots + bs' ≤ _; omega, by show g_RH K T.heap h n; rw [hT]; exact hR⟩
  refine g_after (args := args) (d' := d') (av := ((.ref b :: As)).toArray) (st := st) (len := 3) hC g1 g2 g3 g4 hl hs hc hsl kn kx ?_
  exact vx_callVU Z hC.1 (owner := owner) hC.2.2.2.2.1 (hts _ hlink) (hts _ hsame) (g_decl hKN hdc) how (hts _ hse) (hts _ hin) (g_cwC hh hcode) hK (by rw [hT]; exact w1) w2 w3 (g := F0 m pc ls (As.reverse ++ .ref b :: st)) rfl hsz (argsL := As) (rest := st) (fun sig he => g_pl_len hpl sig he) rfl (lv_room hw) (by rw [hC.2.1]; exact hd) hpre
theorem r_callF {st0 : List Value} {M' : g_M} {C : String} {T0 : u_T} {N ci : Nat} {fs : List Value} {x : MethodName} {count : Nat} {index d' bc' bs' : Nat} {P' : g_Q} {X' : g_X} (As : List Value) {b : Nat} (hd : decode M.2.1 pc = .ok (.invokeinterface index count, 5)) (hlink : Cond.methodLink M.1.cls index x ∈ lw_all) (hdc : Cond.declares x ∈ lw_tbl) (hfa : Cond.interfaceMethod x.cls x.cls x.name x.desc ∈ lw_tbl) (hfw : g_wd (Cond.interfaceMethod x.cls x.cls x.name x.desc) = true) (hse : Cond.selects C x M'.1 ∈ lw_all) (hin : Cond.instanceMethod M'.1 ∈ lw_all) (hpu : Cond.publicMethod M'.1 ∈ lw_tbl) (hun : Cond.unhidden C x.name x.desc ∈ lw_tbl) (hca : Cond.castable C x.cls ∈ lw_tbl) (hh : M'.2.2.2.2 = []) (hcw : g_cw M' ∈ lw_tbl) (hini : Cond.initialized M'.1.cls ∈ lw_all) (hpl : g_pl x As.length) (hcc : g_CL[ci]? = some (C, T0, N)) (ho : h b = some (g_ob ci fs))
    (hM : g_Met K M' d' bc' bs' (.ref b :: As) h n P' X') (hd1 : d' + 1 ≤ d) (hml : M'.2.2.1 ≤ 40) (hc : bc' ≤ bc) (hsl : bs' ≤ bs) (hL : L.length = M.2.2.1) (hw : (st.map fun v => v.category).sum ≤ 8) (hst : st0 = As.reverse ++ .ref b :: st)
    (kn : ∀ (v : Option Value) (h' : g_P) (n' : Nat), P' v h' n' → g_G K M d (bc - bc') (bs - bs') P X (pc + 5) L (v.toList ++ st) h' n') (kx : ∀ (q : Nat) (h' : g_P) (n' : Nat), X' q h' n' → g_GX K M d (bc - bc') (bs - bs') P X pc L h' n' q) :
    g_G K M d bc bs P X pc L st0 h n := by
  subst hst
  intro p e R s m args below meth c H locs cells slots ls hC g1 g2 g3 g4 hR hl hs T hT Z
  have hKN := hC.2.2.2.2.2.2.2.2.1
  have hts := g_all hKN args
  have hcode := hKN.word hcw (g_cwd M') args
  have hsz : ls.size = c.maxLocals := by rw [hs.1, hL, hC.2.2.1]
  obtain ⟨cellB, w1, w2, w3⟩ := g_recv hKN hR hcc ho
  obtain ⟨kB, hkB, -⟩ := Vm.findClass_spec w3
  have hK := g_back (R := R) (p := p) (e := e) (below := below) (s := s) (sargs := args) (len := 5) (W9 := 8) hM hKN hcw hini (by omega) (by omega)
  have hpre : ∀ vm₁, s.WarmedH vm₁ → g_Pre K R bc' bs' (.ref b :: As) h n ⟨T.setVm vm₁, locs, cells, slots⟩ ((.ref b :: As)).toArray := fun vm₁ _ => ⟨rfl, by show cells + bc' ≤ _; omega, by show slots + bs' ≤ _; omega, by show g_RH K T.heap h n; rw [hT]; exact hR⟩
  refine g_after (args := args) (d' := d') (av := ((.ref b :: As)).toArray) (st := st) (len := 5) hC g1 g2 g3 g4 hl hs hc hsl kn kx ?_
  exact vx_callIF Z hC.1 hC.2.2.2.2.1 (hts _ hlink) (hKN.word hdc rfl args) (hKN.word hfa hfw args) (hts _ hse) (hts _ hin) (hKN.word hpu rfl args) (hKN.word hun rfl args) (hKN.word hca rfl args) (g_cwC hh hcode) ⟨hpl.1, hpl.2.1⟩ hK (by rw [hT]; exact w1) w2 w3 hkB (g := F0 m pc ls (As.reverse ++ .ref b :: st)) rfl hsz (argsL := As) (rest := st) (fun sig he => g_pl_len hpl sig he) rfl (lv_room hw) (by rw [hC.2.1]; exact hd) hpre
theorem r_callVX {st0 : List Value} {M' : g_M} {C : String} {T0 : u_T} {N ci : Nat} {fs : List Value} {index d' bc' bs' : Nat} {P' : g_Q} {X' : g_X} (As : List Value) {b : Nat} (hd : decode M.2.1 pc = .ok (.invokevirtual index, 3)) (hlink : Cond.methodLink M.1.cls index M'.1 ∈ lw_all) (hin : Cond.instanceMethod M'.1 ∈ lw_all) (hse : Cond.selects C M'.1 M'.1 ∈ lw_all) (hh : g_cw M' = Cond.codeWith M'.1 M'.2.1 M'.2.2.1 M'.2.2.2.1 M'.2.2.2.2) (hcw : g_cw M' ∈ lw_tbl) (hini : Cond.initialized M'.1.cls ∈ lw_all) (hpl : g_pl M'.1 As.length) (hcc : g_CL[ci]? = some (C, T0, N)) (ho : h b = some (g_ob ci fs))
    (hM : g_Met K M' d' bc' bs' (.ref b :: As) h n P' X') (hd1 : d' + 1 ≤ d) (hml : M'.2.2.1 ≤ 40) (hc : bc' ≤ bc) (hsl : bs' ≤ bs) (hL : L.length = M.2.2.1) (hw : (st.map fun v => v.category).sum ≤ 8) (hst : st0 = As.reverse ++ .ref b :: st)
    (kn : ∀ (v : Option Value) (h' : g_P) (n' : Nat), P' v h' n' → g_G K M d (bc - bc') (bs - bs') P X (pc + 3) L (v.toList ++ st) h' n') (kx : ∀ (q : Nat) (h' : g_P) (n' : Nat), X' q h' n' → g_GX K M d (bc - bc') (bs - bs') P X pc L h' n' q) :
    g_G K M d bc bs P X pc L st0 h n := by
  subst hst
  intro p e R s m args below meth c H locs cells slots ls hC g1 g2 g3 g4 hR hl hs T hT Z
  have hKN := hC.2.2.2.2.2.2.2.2.1
  have hts := g_all hKN args
  have hcode := hKN.word hcw (g_cwd M') args
  have hsz : ls.size = c.maxLocals := by rw [hs.1, hL, hC.2.2.1]
  obtain ⟨cellB, w1, w2, w3⟩ := g_recv hKN hR hcc ho
  have hK := g_back (R := R) (p := p) (e := e) (below := below) (s := s) (sargs := args) (len := 3) (W9 := 8) hM hKN hcw hini (by omega) (by omega)
  have hpre : ∀ vm₁, s.WarmedH vm₁ → g_Pre K R bc' bs' (.ref b :: As) h n ⟨T.setVm vm₁, locs, cells, slots⟩ ((.ref b :: As)).toArray := fun vm₁ _ => ⟨rfl, by show cells + bc' ≤ _; omega, by show slots + bs' ≤ _; omega, by show g_RH K T.heap h n; rw [hT]; exact hR⟩
  refine g_after (args := args) (d' := d') (av := ((.ref b :: As)).toArray) (st := st) (len := 3) hC g1 g2 g3 g4 hl hs hc hsl kn kx ?_
  exact vx_callVX Z hC.1 hC.2.2.2.2.1 (hts _ hlink) (hts _ hin) (hts _ hse) (by rw [← hh]; exact hcode) ⟨hpl.1, hpl.2.1⟩ hK (by rw [hT]; exact w1) w2 w3 (g := F0 m pc ls (As.reverse ++ .ref b :: st)) rfl hsz (argsL := As) (rest := st) (fun sig he => g_pl_len hpl sig he) rfl (lv_room hw) (by rw [hC.2.1]; exact hd) hpre
theorem r_callSX {st0 : List Value} {M' : g_M} {index d' bc' bs' : Nat} {P' : g_Q} {X' : g_X} (As : List Value) (hd : decode M.2.1 pc = .ok (.invokestatic index, 3)) (hlink : Cond.methodLink M.1.cls index M'.1 ∈ lw_all) (hin : Cond.static M'.1 ∈ lw_all) (hh : g_cw M' = Cond.codeWith M'.1 M'.2.1 M'.2.2.1 M'.2.2.2.1 M'.2.2.2.2) (hcw : g_cw M' ∈ lw_tbl) (hini : Cond.initialized M'.1.cls ∈ lw_all) (hpl : g_pl M'.1 As.length) 
    (hM : g_Met K M' d' bc' bs' As h n P' X') (hd1 : d' + 1 ≤ d) (hml : M'.2.2.1 ≤ 40) (hc : bc' ≤ bc) (hsl : bs' ≤ bs) (hL : L.length = M.2.2.1) (hw : (st.map fun v => v.category).sum ≤ 8) (hst : st0 = As.reverse ++ st)
    (kn : ∀ (v : Option Value) (h' : g_P) (n' : Nat), P' v h' n' → g_G K M d (bc - bc') (bs - bs') P X (pc + 3) L (v.toList ++ st) h' n') (kx : ∀ (q : Nat) (h' : g_P) (n' : Nat), X' q h' n' → g_GX K M d (bc - bc') (bs - bs') P X pc L h' n' q) :
    g_G K M d bc bs P X pc L st0 h n := by
  subst hst
  intro p e R s m args below meth c H locs cells slots ls hC g1 g2 g3 g4 hR hl hs T hT Z
  have hKN := hC.2.2.2.2.2.2.2.2.1
  have hts := g_all hKN args
  have hcode := hKN.word hcw (g_cwd M') args
  have hsz : ls.size = c.maxLocals := by rw [hs.1, hL, hC.2.2.1]
  have hK := g_back (R := R) (p := p) (e := e) (below := below) (s := s) (sargs := args) (len := 3) (W9 := 8) hM hKN hcw hini (by omega) (by omega)
  have hpre : ∀ vm₁, s.WarmedH vm₁ → g_Pre K R bc' bs' As h n ⟨T.setVm vm₁, locs, cells, slots⟩ (As).toArray := fun vm₁ _ => ⟨rfl, by show cells + bc' ≤ _; omega, by show slots + bs' ≤ _; omega, by show g_RH K T.heap h n; rw [hT]; exact hR⟩
  refine g_after (args := args) (d' := d') (av := (As).toArray) (st := st) (len := 3) hC g1 g2 g3 g4 hl hs hc hsl kn kx ?_
  exact vx_callSX Z hC.1 hC.2.2.2.2.1 (hts _ hlink) (hts _ hin) (hts _ hini) (by rw [← hh]; exact hcode) ⟨hpl.1, hpl.2.1⟩ hK (g := F0 m pc ls (As.reverse ++ st)) rfl hsz (argsL := As) (rest := st) (fun sig he => g_pl_len hpl sig he) rfl (lv_room hw) (by rw [hC.2.1]; exact hd) hpre
end
section
variable {K : g_K} {M : g_M} {d bc bs : Nat} {P : g_Q} {X : g_X} {pc : Nat} {L : List (Option Value)} {st : List Value}
theorem kV {Q : g_P → Nat → Prop} (k : ∀ (h : g_P) (n : Nat), Q h n → g_G K M d bc bs P X pc L st h n) : ∀ (v : Option Value) (h : g_P) (n : Nat), gV Q v h n → g_G K M d bc bs P X pc L (v.toList ++ st) h n := by
  rintro _ h n ⟨rfl, hq⟩
  exact k h n hq
theorem kI {Q : Int32 → g_P → Nat → Prop} (k : ∀ (x : Int32) (h : g_P) (n : Nat), Q x h n → g_G K M d bc bs P X pc L (.int x :: st) h n) : ∀ (v : Option Value) (h : g_P) (n : Nat), gI Q v h n → g_G K M d bc bs P X pc L (v.toList ++ st) h n := by
  rintro _ h n ⟨x, rfl, hq⟩
  exact k x h n hq
theorem kJ {Q : Int64 → g_P → Nat → Prop} (k : ∀ (x : Int64) (h : g_P) (n : Nat), Q x h n → g_G K M d bc bs P X pc L (.long x :: st) h n) : ∀ (v : Option Value) (h : g_P) (n : Nat), gJ Q v h n → g_G K M d bc bs P X pc L (v.toList ++ st) h n := by
  rintro _ h n ⟨x, rfl, hq⟩
  exact k x h n hq
theorem kF {Q : UInt32 → g_P → Nat → Prop} (k : ∀ (x : UInt32) (h : g_P) (n : Nat), Q x h n → g_G K M d bc bs P X pc L (.float x :: st) h n) : ∀ (v : Option Value) (h : g_P) (n : Nat), gF Q v h n → g_G K M d bc bs P X pc L (v.toList ++ st) h n := by
  rintro _ h n ⟨x, rfl, hq⟩
  exact k x h n hq
theorem kD {Q : UInt64 → g_P → Nat → Prop} (k : ∀ (x : UInt64) (h : g_P) (n : Nat), Q x h n → g_G K M d bc bs P X pc L (.double x :: st) h n) : ∀ (v : Option Value) (h : g_P) (n : Nat), gD Q v h n → g_G K M d bc bs P X pc L (v.toList ++ st) h n := by
  rintro _ h n ⟨x, rfl, hq⟩
  exact k x h n hq
theorem kA {Q : Value → g_P → Nat → Prop} (k : ∀ (x : Value) (h : g_P) (n : Nat), (x = .null ∨ ∃ a, x = .ref a) → Q x h n → g_G K M d bc bs P X pc L (x :: st) h n) : ∀ (v : Option Value) (h : g_P) (n : Nat), gA Q v h n → g_G K M d bc bs P X pc L (v.toList ++ st) h n := by
  rintro _ h n ⟨x, rfl, hx, hq⟩
  exact k x h n hx hq
theorem kN {L' : List (Option Value)} : ∀ (q : Nat) (h : g_P) (n : Nat), gN q h n → g_GX K M d bc bs P X pc L' h n q := fun _ _ _ hq => hq.elim
end
