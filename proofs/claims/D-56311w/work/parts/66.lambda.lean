/-! lambdas: the classes made for them, what their forwarders do -/
set_option maxRecDepth 100000
def fwD (σ : Lambda.Shape) (own : String) : ClassFile := (σ.file own).getD { minorVersion := 0, majorVersion := 0, constantPool := #[], accessFlags := 0, thisClass := 0, superClass := 0, interfaces := #[], fields := #[], methods := #[], attributes := #[] }
def fwM (σ : Lambda.Shape) (own : String) : Method := ((layoutMethods (fwD σ own)).bind (·[1]?)).getD default
def fwL (σ : Lambda.Shape) (own : String) : Array Field × Array FieldType × Array FieldType := (layoutFields (fwD σ own) 0).getD (#[], #[], #[])
/-- what the file of a made class says of its forwarder -/
def fwF (σ : Lambda.Shape) (own : String) (code : ByteArray) (ml iM iC iS nt : Nat) : Prop :=
  (σ.file own).isSome = true ∧ ((layoutMethods (fwD σ own)).bind (·[1]?)).isSome = true ∧ (layoutFields (fwD σ own) 0).isSome = true ∧
  ((fwM σ own).code.map fun c => (c.code.data, c.maxLocals)) = some (code.data, ml) ∧ ((fwM σ own).accessFlags, (fwM σ own).sig.returnType) = (1, some FieldType.int) ∧
  (fwD σ own).constantPool[iM]? = some (.methodref iC nt) ∧ (fwD σ own).constantPool.className? iC = some σ.implClass ∧ (fwD σ own).constantPool.nameAndType? nt = some (σ.implName, σ.implDesc.toString) ∧
  (fwD σ own).constantPool[iC]? = some (.class_ iS) ∧ (fwD σ own).constantPool.string? iS = some σ.implClass ∧ iC ≠ (fwD σ own).thisClass
/-- a captured value's field -/
def fwG (σ : Lambda.Shape) (own : String) (iF nt j : Nat) (nm ds : String) : Prop :=
  (fwD σ own).constantPool[iF]? = some (.fieldref 2 nt) ∧ (fwD σ own).constantPool.nameAndType? nt = some (nm, ds) ∧ (fwL σ own).1.findIdx? (·.name == nm) = some j ∧ ((fwL σ own).1[j]?).map (fun f => (f.isStatic, f.slot)) = some (false, j)
theorem fw_facts {e : Setting} {vm : Vm} {d c : ClassId} {dk : Class} {σ : Lambda.Shape} {own : String} {code : ByteArray} {ml iM iC iS nt : Nat} (F : fwF σ own code ml iM iC iS nt) (hd : vm.classes[d]? = some dk) (hname : dk.name = own) (h : Lambda.isMade e vm d σ c = true)
    (hO : ∀ o ok, vm.findClass "java/lang/Object" = some o → vm.classes[o]? = some ok → ok.instanceTypes = #[]) :
    ∃ (k tk : Class) (file : ClassFile) (methk : Method) (ck : Code) (toy : ClassId) (t : MethodId),
      vm.classes[c]? = some k ∧ k.name = own ++ "$$Lambda" ∧ k.cf = some file ∧ file.constantPool = (fwD σ own).constantPool ∧
      vm.method? ⟨c, 1⟩ = some methk ∧ methk.code = some ck ∧ ck.code = code ∧ ck.maxLocals = ml ∧ ck.exceptionTable.toList = [] ∧ methk.locks = false ∧ methk.accessFlags = 0x0001 ∧ methk.sig.returnType = some .int ∧
      vm.findClass σ.implClass = some toy ∧ vm.classes[toy]? = some tk ∧ ((methodIn toy σ.implName σ.implDesc.toString tk.isInterface none).ask e vm).1 = .ok t ∧
      vm.methodReady c iM t ∧ vm.classReady c iC toy ∧ (k.instanceTypes = (fwL σ own).2.1 ∧ k.kind = .ordinary) ∧
      (∀ iF nt j nm ds, fwG σ own iF nt j nm ds → ∃ f0 : Field, vm.fieldReady c iF c f0 ∧ f0.isStatic = false ∧ f0.slot = j) := by
  obtain ⟨F1, F2, F3, F4, F5, F6, F7, F8, F9, F10, F11⟩ := F
  obtain ⟨dk', k, ok, tk, file, cf, object, iface, toy, lay, methods, target, found, hd', hk, hfile, hcf, hobj, -, hok, hlay, hms, ht, htk, hg, -, hrec, -, -, -, -, hpool, hmeth, hfields, htypes, hres, -⟩ := Lambda.isMade_spec h
  cases hd.symm.trans hd'
  rw [hname] at hcf
  obtain ⟨D, hD⟩ := Option.isSome_iff_exists.mp F1
  have eD : fwD σ own = D := by unfold fwD; rw [hD]; rfl
  cases hcf.symm.trans hD
  have hemp := hO object ok hobj hok
  rw [hemp] at hlay htypes
  have eL : fwL σ own = lay := by unfold fwL; rw [eD, show layoutFields cf 0 = some lay from hlay]; rfl
  have eM : methods[1]? = some (fwM σ own) := by
    obtain ⟨x, hx⟩ := Option.isSome_iff_exists.mp F2
    have e2 : fwM σ own = x := by unfold fwM; rw [hx]; rfl
    rw [e2, ← hx, eD, hms]
    rfl
  obtain ⟨b, hb, hsame⟩ := hmeth 1 _ eM
  simp only [Lambda.sameMethod, Bool.and_eq_true, decide_eq_true_eq] at hsame
  obtain ⟨⟨hn, -, hsig, hfl⟩, hcode⟩ := hsame
  simp only [Prod.mk.injEq] at F5
  cases hfc : (fwM σ own).code with
  | none => rw [hfc] at F4; cases F4
  | some x =>
    cases hbc : b.code with
    | none => simp [hfc, hbc] at hcode
    | some y =>
      simp only [hfc, hbc, Bool.and_eq_true, decide_eq_true_eq] at hcode
      simp only [hfc, Option.map_some, Option.some.injEq, Prod.mk.injEq] at F4
      rw [eD] at F6 F7 F8 F9 F10 F11
      refine ⟨k, tk, file, b, y, toy, target, hk, by rw [hrec.1, hname], hfile, by rw [eD]; exact hpool.2.1, by simp [Vm.method?, hk, hb], hbc, ?_, by rw [← hcode.1.1.1.1.2.1]; exact F4.2, ?_, ?_, by rw [← hfl]; exact F5.1, by rw [← hsig]; exact F5.2, ht, htk, hg,
        ⟨k, hk, hres iM _ (Lambda.resolvedOf_method F6 F7 ht htk F8 hg)⟩, ⟨k, hk, hres iC _ (Lambda.resolvedOf_class F9 F11 F10 ht)⟩, ⟨by rw [htypes.1, eL]; simp, hrec.2.1⟩, fun iF nt j nm ds G => ?_⟩
      · rw [← hcode.1.1.1.1.2.2]
        exact ByteArray.ext F4.1
      · have := hcode.1.1.2
        simpa using this
      · simp [Method.locks, Method.isSynchronized, ← hfl, F5.1, hasFlag, Acc.synchronized]
      · obtain ⟨G1, G2, G3, G4⟩ := G
        rw [eD] at G1 G2
        rw [eL] at G3 G4
        obtain ⟨g0, hg0, hp0⟩ := Option.map_eq_some_iff.mp G4
        simp only [Prod.mk.injEq] at hp0
        exact ⟨g0, ⟨k, j, k, hk, hres iF _ (Lambda.resolvedOf_field G1 G2 G3), hk, hfields j _ hg0⟩, hp0.1, hp0.2⟩
theorem cw_named {M : g_M} {s : State} {args : Array Value} (h : (g_cw M).before args s = true) : ∃ m, s.methodNamed? M.1 = some m := by
  unfold g_cw at h
  split at h
  · cases hn : s.methodNamed? M.1 with
    | none => simp [Cond.before, Cond.holds, Cond.value, hn] at h
    | some m => exact ⟨m, rfl⟩
  · obtain ⟨m9, meth, c, hn9, -⟩ := Cond.codeWith_spec h
    exact ⟨m9, hn9⟩
section
variable {K : g_K} {h : g_P} {n d' bc' bs' : Nat} {X' : g_X} {Q : Int32 → g_P → Nat → Prop} {M' : g_M}
/-- the forwarder's call of its target, and its return -/
theorem fw_tail {p : Program} {e : Env} {R : Room} {s : State} {m : MethodId} {args : Array Value} {below : List Frame} {meth : Method} {c : Code} {T : State} {locs : List Loc} {cells slots : Nat} (X : Stand p (k_l K) e R s m args below meth c T locs cells slots) (hexec : p.tables.exec = Jvm.exec) {g : JFrame} (hg : g.method = m) {ig : Instr} {len : Nat} (hdg : decode c.code g.pc = .ok (ig, len))
    {mk : MethodId} {methk : Method} {ck : Code} {aK : Array Value} {R' : Room} {U : State} (Y : Stand p (k_l K) e R' (T.calling g mk aK) mk aK (.java g :: below) methk ck U [] 0 0) (hUh : U.heap = T.heap)
    {q iM : Nat} (hdq : decode ck.code q = .ok (.invokestatic iM, 3)) (hdr : decode ck.code (q + 3) = .ok (.ireturn, 1)) (hret : methk.sig.returnType = some .int) (hlk : methk.locks = false) (hext : ck.exceptionTable.toList = [])
    {lsK : Array Slot} (hszK : lsK.size = ck.maxLocals) (hKN : g_KN K (T.calling g mk aK)) (hR : g_RH K T.heap h n) {av : List Value} (hM : g_Met K M' d' bc' bs' av h n (gI Q) X') (hcw : g_cw M' ∈ lw_tbl) (hini : Cond.initialized M'.1.cls ∈ lw_all)
    (hframes : d' + 1 ≤ R'.frames) (hlocals : 8 + (M'.2.2.1 + 11) + (64 * d' + 20000) ≤ R'.locals) (hbc : bc' ≤ R'.cells) (hbs : bs' ≤ R'.slots)
    {t : MethodId} {kt : Class} {metht : Method} (ht : U.methodNamed? M'.1 = some t) (href : plainRef U e mk.cls iM) (hready : U.vm.methodReady mk.cls iM t) (hkt : U.vm.classes[t.cls]? = some kt) (hmt : U.vm.method? t = some metht) (hpoly : signaturePolymorphic kt metht = false) (hstatic : metht.isStatic = true) (hinit : kt.init = .initialized) (hpar : av.length = metht.sig.parameters.length) :
    (∃ (v : Option Value) (B : Pt), Stand p (k_l K) e R s m args below meth c B.U B.locs B.cells B.slots ∧ g_Post K bc' bs' (gI Q) ⟨T, locs, cells, slots⟩ av.toArray v B ∧
      Steps p.tables e (.java g :: below) (U.setTop { method := mk, pc := q, locals := lsK, stack := av.reverse, locked := none }) (B.U.setTop { g with pc := g.pc + len, stack := v.toList ++ g.stack })) ∨
    (∃ (x : Addr) (B : Pt), Stand p (k_l K) e R s m args below meth c B.U B.locs B.cells B.slots ∧ g_PostX K bc' bs' X' ⟨T, locs, cells, slots⟩ av.toArray x B ∧
      Steps p.tables e (.java g :: below) (U.setTop { method := mk, pc := q, locals := lsK, stack := av.reverse, locked := none }) ((B.U.setTop g).pushFrame (.throwing x))) := by
  have hK := g_back (R := R') (p := p) (e := e) (below := .java g :: below) (s := T.calling g mk aK) (sargs := aK) (len := 3) (W9 := 8) hM hKN hcw hini hframes hlocals
  have hs : U.topJava?.isSome := Y.here.top
  have hcall : ∀ target, Steps p.tables e (.java g :: below) (doInvoke e (U.setTop { method := mk, pc := q, locals := lsK, stack := [], locked := none }) [] t av.toArray).1 target → Steps p.tables e (.java g :: below) (U.setTop { method := mk, pc := q, locals := lsK, stack := av.reverse, locked := none }) target := by
    intro target hrest
    jvm_step Y.here [hexec, hdq, invokestatic.wp_ready (e := e) (s := U) (m := t) (k := kt) (meth := metht) (args := av) (rest := []) (f := { method := mk, pc := q, locals := lsK, stack := av.reverse, locked := none }) hs href hready hkt hmt hpoly hstatic hinit hpar (by simp)]
    intro acts'
    rw [doInvoke_state]
    exact hrest
  rcases hK mk methk ck ⟨U, [], 0, 0⟩ { method := mk, pc := q, locals := lsK, stack := [], locked := none } (.invokestatic iM) t av.toArray Y rfl hszK hdq (by show 2 * 0 + 0 ≤ 8; omega) ht ⟨rfl, by show 0 + bc' ≤ _; omega, by show 0 + bs' ≤ _; omega, by show g_RH K U.heap h n; rw [hUh]; exact hR⟩ with ⟨v, B, Y₁, hpost, hsteps⟩ | ⟨x, B, Y₁, hpost, hsteps⟩
  · obtain ⟨h', n', ⟨r, rfl, hq⟩, hR', Lo, e1, e2, e3, e4⟩ := hpost
    obtain ⟨fs, hleave, -, hended, hWe, hsame⟩ := Y₁.leave (v := some (.int r)) (fun h => by rw [hret] at h; cases h) hlk
    obtain ⟨T', X', hW', -, ht'⟩ := X.outOf hg hdg hended hWe hsame
    refine Or.inl ⟨some (.int r), ⟨T', locs ++ B.locs, cells + B.cells, slots + B.slots⟩, X', ⟨h', n', ⟨r, rfl, hq⟩, ?_, Lo, by rw [e1]; rfl, e2, by rw [e3]; show cells + (0 + bc') = cells + bc'; omega, by rw [e4]; show slots + (0 + bs') = slots + bs'; omega⟩, ?_⟩
    · have hh : T'.heap = B.U.heap := by
        have := congrArg State.heap ht'
        exact this.symm.trans rfl
      show g_RH K T'.heap h' n'
      rw [hh]
      exact hR'
    · refine hcall _ (hsteps.trans ?_)
      show Steps p.tables e (.java g :: below) (B.U.setTop { method := mk, pc := q + 3, locals := lsK, stack := [.int r], locked := none }) _
      rw [← ht']
      have hsB : B.U.topJava?.isSome := Y₁.here.top
      jvm_step Y₁.here [hsB, hexec, hdr, Y₁.method', hret, narrow]
      intro acts''
      rw [hleave { method := mk, pc := q + 3, locals := lsK, stack := [], locked := none } acts'' rfl rfl rfl]
      exact Steps.refl _
  · obtain ⟨h', n', hq, hR', Lo, e1, e2, e3, e4⟩ := hpost
    obtain ⟨st1, hrun, hended, hWe, hsame⟩ := Y₁.leaveThrown x (g := { method := mk, pc := q, locals := lsK, stack := [], locked := none }) rfl rfl rfl (by rw [hext]; intro y hy; cases hy) hlk
    obtain ⟨T', X', hW', -, ht'⟩ := X.outOfThrown hg hended hWe hsame
    refine Or.inr ⟨x, ⟨T', locs ++ B.locs, cells + B.cells, slots + B.slots⟩, X', ⟨h', n', hq, ?_, Lo, by rw [e1]; rfl, e2, by rw [e3]; show cells + (0 + bc') = cells + bc'; omega, by rw [e4]; show slots + (0 + bs') = slots + bs'; omega⟩, ?_⟩
    · have hh : T'.heap = B.U.heap := by
        have := congrArg State.heap ht'
        exact this.symm.trans rfl
      show g_RH K T'.heap h' n'
      rw [hh]
      exact hR'
    · refine hcall _ (hsteps.trans ?_)
      rw [← ht']
      exact st1
end
/-- what a forwarder does ahead of its call: from its entry to the call, with vals and As on the stack -/
def fwRun (σ : Lambda.Shape) (own : String) (code : ByteArray) (ml q : Nat) (vals As : List Value) (b : Nat) : Prop :=
  ∀ (p : Program) (l : Launch) (e : Env) (R' : Room) (s9 : State) (cK : ClassId) (below : List Frame) (methk : Method) (ck : Code) (U : State), Stand p l e R' s9 ⟨cK, 1⟩ (Value.ref b :: As).toArray below methk ck U [] 0 0 → p.tables.exec = Jvm.exec → ck.code = code →
    (∀ iF nt j nm ds, fwG σ own iF nt j nm ds → ∃ f0 : Field, U.vm.fieldReady cK iF cK f0 ∧ f0.isStatic = false ∧ f0.slot = j) → U.heap[b]? = some (g_cell cK vals) →
    ∃ lsK : Array Slot, lsK.size = ml ∧ ∀ target, Steps p.tables e below (U.setTop { method := ⟨cK, 1⟩, pc := q, locals := lsK, stack := (vals ++ As).reverse, locked := none }) target → Steps p.tables e below (U.setTop (entryFrame ⟨cK, 1⟩ (Value.ref b :: As).toArray ml)) target
theorem sh_15 {α : Type} {x : Array Nat} {f : Nat → Nat → Nat → Option α} {r : α} (h : Lambda.shapeOf?.match_15 (fun _ => Option α) x f (fun _ => none) = some r) : ∃ a0 a1 a2, f a0 a1 a2 = some r := by
  rcases x with ⟨L⟩
  match L, h with
  | [], h => cases h
  | [_], h => cases h
  | [_, _], h => cases h
  | [a, b, c], h => exact ⟨a, b, c, h⟩
  | _ :: _ :: _ :: _ :: _, h => cases h
theorem sh_site {cf : ClassFile} {index : Nat} {σ : Lambda.Shape} (h : Lambda.shapeOf? cf index = some σ) :
    ∃ (b nt : Nat) (desc : String) (site : MethodDescriptor), cf.constantPool[index]? = some (.invokeDynamic b nt) ∧ cf.constantPool.nameAndType? nt = some (σ.name, desc) ∧ parseMethodDescriptor desc = some site ∧ site.parameters = σ.captured := by
  unfold Lambda.shapeOf? at h
  split at h
  · rename_i b nt hc
    obtain ⟨entries, -, h⟩ := Option.bind_eq_some_iff.mp h
    obtain ⟨bm, -, h⟩ := Option.bind_eq_some_iff.mp h
    split at h
    · obtain ⟨_, -, h⟩ := Option.bind_eq_some_iff.mp h
      obtain ⟨a0, a1, a2, h⟩ := sh_15 h
      split at h
      · split at h
        · split at h
          · obtain ⟨⟨name, desc⟩, hnt, h⟩ := Option.bind_eq_some_iff.mp h
            obtain ⟨site, hsite, h⟩ := Option.bind_eq_some_iff.mp h
            dsimp only at h
            split at h
            · obtain ⟨⟨implClass, implName, implDesc, implItf⟩, -, h⟩ := Option.bind_eq_some_iff.mp h
              obtain ⟨x1, -, h⟩ := Option.bind_eq_some_iff.mp h
              obtain ⟨x2, -, h⟩ := Option.bind_eq_some_iff.mp h
              obtain ⟨x3, -, h⟩ := Option.bind_eq_some_iff.mp h
              obtain ⟨x4, -, h⟩ := Option.bind_eq_some_iff.mp h
              obtain ⟨x5, -, h⟩ := Option.bind_eq_some_iff.mp h
              cases h
              exact ⟨b, nt, desc, site, hc, hnt, hsite, rfl⟩
            · cases h
          · cases h
        · cases h
      · cases h
    · cases h
  · cases h
section
variable {K : g_K} {M : g_M} {d bc bs : Nat} {P : g_Q} {X : g_X} {pc : Nat} {L : List (Option Value)} {st : List Value} {h : g_P} {n : Nat}
/-- a lambda's object where nothing is captured -/
theorem r_lamC {a index : Nat} {z : g_LI} (hz : z ∈ k_f K) (hm : z.1 = M.1) (hpc : z.2.1 = pc) (hone : z.2.2.2.2.2 = some a) (hd : decode M.2.1 pc = .ok (.invokedynamic index, 5)) (hL : L.length = M.2.2.1) (hw : (st.map fun v => v.category).sum ≤ 8) (k : g_G K M d bc bs P X (pc + 5) L (.ref a :: st) h n) : g_G K M d bc bs P X pc L st h n := by
  intro p e R s m args below meth c H locs cells slots ls hC g1 g2 g3 g4 hR hl hs T hT Z
  have hKN := hC.2.2.2.2.2.2.2.2.1
  have hsz : ls.size = c.maxLocals := by rw [hs.1, hL, hC.2.2.1]
  obtain ⟨mz, kz, cf, i0, p0, l, z1, z2, z3, z4, z5, z6, z7, z8⟩ := hKN.2.2.2.2.2.2.1 z hz
  rw [hm] at z1
  cases hC.2.2.2.2.2.2.2.2.2.symm.trans z1
  obtain ⟨a', rfl, ha⟩ : ∃ a', l = .constant a' ∧ z.2.2.2.2.2 = some a' := by
    rcases z8 with q | ⟨-, q⟩
    · exact q
    · rw [hone] at q; cases q
  cases hone.symm.trans ha
  rw [hpc] at z5
  obtain ⟨t, a1, b1⟩ := k p e R s m args below meth c H locs cells slots ls hC g1 g2 g3 g4 hR hl hs T hT Z
  refine ⟨t, Z.lambdaConstant hC.1 (g := F0 m pc ls st) rfl hsz (by rw [hC.2.1]; exact hd) z2 z5 ?_ a1, b1⟩
  have : e.platform.lambdaLinkWords = 3072 := by rw [Z.admits.platform]
  rw [this]
  show 2 * 0 + (st.map fun v => v.category).sum + 3072 ≤ R.locals
  omega
/-- a call of a lambda's object -/
theorem r_lamI {st0 : List Value} {M' : g_M} {z : g_LI} {x : MethodName} {code : ByteArray} {ml iM iC iS nt q : Nat} {count index d' bc' bs' kk : Nat} {Q : Int32 → g_P → Nat → Prop} {X' : g_X} {vals : List Value} (As : List Value) {b : Nat} (F : fwF z.2.2.2.1 z.1.cls code ml iM iC iS nt) (hrun : fwRun z.2.2.2.1 z.1.cls code ml q vals As b) (hdq : decode code q = .ok (.invokestatic iM, 3)) (hdr : decode code (q + 3) = .ok (.ireturn, 1)) (hz : z ∈ k_f K) (hkk : k_L K kk = z.2.2.2.2.1) (hpn : plainName (z.1.cls ++ "$$Lambda") = true) (hml9 : ml ≤ 8)
    (hd : decode M.2.1 pc = .ok (.invokeinterface index count, 5)) (hlink : Cond.methodLink M.1.cls index x ∈ lw_all) (hdc : Cond.declares x ∈ lw_tbl) (hfa : Cond.interfaceMethod x.cls x.cls x.name x.desc ∈ lw_tbl) (hfw : g_wd (Cond.interfaceMethod x.cls x.cls x.name x.desc) = true) (hx : x.cls = z.2.2.2.1.iface ∧ x.name = z.2.2.2.1.name ∧ x.desc = z.2.2.2.1.sam.toString)
    (hin : Cond.static M'.1 ∈ lw_all) (hy : M'.1.cls = z.2.2.2.1.implClass ∧ M'.1.name = z.2.2.2.1.implName ∧ M'.1.desc = z.2.2.2.1.implDesc.toString) (hcw : g_cw M' ∈ lw_tbl) (hini : Cond.initialized M'.1.cls ∈ lw_all) (hpl : g_pl x As.length) (hpl' : g_pl M'.1 (vals ++ As).length) (ho : h b = some (g_la kk vals))
    (hM : g_Met K M' d' bc' bs' (vals ++ As) h n (gI Q) X') (hd1 : d' + 2 ≤ d) (hml : M'.2.2.1 ≤ 40) (hc : bc' ≤ bc) (hsl : bs' ≤ bs) (hL : L.length = M.2.2.1) (hw : (st.map fun v => v.category).sum ≤ 8) (hst : st0 = As.reverse ++ .ref b :: st)
    (kn : ∀ (v : Option Value) (h' : g_P) (n' : Nat), gI Q v h' n' → g_G K M d (bc - bc') (bs - bs') P X (pc + 5) L (v.toList ++ st) h' n') (kx : ∀ (q : Nat) (h' : g_P) (n' : Nat), X' q h' n' → g_GX K M d (bc - bc') (bs - bs') P X pc L h' n' q) :
    g_G K M d bc bs P X pc L st0 h n := by
  subst hst
  intro p e R s m args below meth c H locs cells slots ls hC g1 g2 g3 g4 hR hl hs T hT Z
  have hKN := hC.2.2.2.2.2.2.2.2.1
  have hts := g_all hKN args
  have hsz : ls.size = c.maxLocals := by rw [hs.1, hL, hC.2.2.1]
  have hLA := hKN.2.2.2.2.2.2.1 z hz
  obtain ⟨mz, kz, cf, i0, p0, l, z1, z2, z3, z4, z5, z6, z7, z8⟩ := hLA
  have hcell : T.heap[b]? = some (g_cell z.2.2.2.2.1 vals) := by
    have := hR.2.2.1 b _ ho
    rw [hT, ← hkk]
    exact this
  have hO : ∀ U : State, g_KN K U → ∀ o ok, U.vm.findClass "java/lang/Object" = some o → U.vm.classes[o]? = some ok → ok.instanceTypes = #[] := fun U hU o ok h1 h2 => by
    obtain ⟨cO, kO, hfO, hkO, -, -, -, hsz⟩ := Cond.instantiable_spec (hU.word (lw_all_tbl q4091) rfl #[])
    cases hfO.symm.trans h1
    cases hkO.symm.trans h2
    exact Array.eq_empty_of_size_eq_zero hsz
  have hnm : ∀ (U : State) (mU : MethodId) (kU : Class), U.methodNamed? z.1 = some mU → U.vm.classes[mU.cls]? = some kU → kU.name = z.1.cls := fun U mU kU h1 h2 => by
    obtain ⟨k', hk', hn'⟩ := className_of_methodNamed h1
    cases hk'.symm.trans h2
    exact hn'
  obtain ⟨r0, r, hn, hrm, hstR, hsigR⟩ := Cond.declares_spec (hKN.word hdc rfl args)
  obtain ⟨cL, kL, r1, hcL, hkL, hiL, hfoundL, hn1⟩ := Cond.interfaceMethod_spec (hKN.word hfa hfw args)
  cases hn.symm.trans hn1
  have hr0cls : r0.cls = cL := Option.some.inj ((findClass_of_methodNamed hn).symm.trans hcL)
  obtain ⟨hnameR, hdescR⟩ := name_of_methodNamed hn hrm
  obtain ⟨i2, hi2, hasg, hway⟩ := State.lambdaCallable_spec z7
  have ei2 : i2 = cL := by
    rw [hx.1] at hcL
    exact Option.some.inj (hi2.symm.trans hcL)
  subst ei2
  obtain ⟨kc, tk, file, methk0, ck0, toy, t0, fk1, fk2, fk3, fk4, fk5, fk6, fk7, fk8, fk9, fk10, fk11, fk12, -⟩ := fw_facts F z2 (hnm s mz kz z1 z2) z6 (hO s hKN)
  have hsel : selectMethod e.platform s.vm z.2.2.2.2.1 r0 = .method ⟨z.2.2.2.2.1, 1⟩ := by
    rw [Launch.admits_selectMethod Z.admits]
    obtain ⟨dk', k', ok', tk', file', cf', object', iface', toy', lay', methods', target', found', y1, y2, y3, y4, y5, y6, y7, y8, y9, y10, y11, y12, y13, y14, y15, y16, y17, y18, y19, y20, y21, y22, y23, y24⟩ := Lambda.isMade_spec z6
    cases hi2.symm.trans y6
    have : s.methodFound? x.cls x.name x.desc = some found' := by
      simp only [State.methodFound?, hcL, hkL, Option.bind_eq_bind, Option.bind_some, hiL, hx.2.1, hx.2.2, y13]
      rfl
    cases hfoundL.symm.trans this
    exact y24
  obtain ⟨vm₁, X₁, hstep₁⟩ := Z.invokeinterface hC.1 hC.2.2.2.2.1 (hts _ hlink) hn hrm hstR (by rw [hr0cls]; exact hkL) hiL ⟨hpl.1, hpl.2.1⟩ (a := b) (cell := g_cell z.2.2.2.2.1 vals) (kcell := kc) hcell
    (fun z h => by cases h) fk1 (by rw [hr0cls]; exact hasg) hsel fk5 (by rw [hnameR, hdescR, hx.2.1, hx.2.2]; exact hway) (by rw [fk11]; decide) (by simp [Method.isAbstract, fk11, hasFlag, Acc.abstract]) (g := F0 m pc ls (As.reverse ++ .ref b :: st)) rfl (argsL := As) (rest := st) (g_pl_len hpl _ hsigR) rfl (by rw [hC.2.1]; exact hd)
  have hKN1 : g_KN K (T.setVm vm₁) := hKN.warm (U := T.setVm vm₁) X₁.warmed
  obtain ⟨mz1, kz1, cf1, i01, p01, l1, w1, w2, w3, w4, w5, w6, w7, w8⟩ := hKN1.2.2.2.2.2.2.1 z hz
  obtain ⟨kc1, tk1, file1, methk, ck, toy1, t, f1, f2, f3, f4, f5, f6, f7, f8, f9, f10, f11, f12, f13, f14, f15, f16, f17, f18, f19⟩ := fw_facts F w2 (hnm _ mz1 kz1 w1 w2) w6 (hO _ hKN1)
  obtain ⟨Y, hinto⟩ := X₁.into (g := F0 m pc ls st) rfl hsz (by rw [hC.2.1]; exact hd) (Value.ref b :: As).toArray (R' := { frames := d' + 1, locals := 8 + (M'.2.2.1 + 11) + (64 * d' + 20000), cells := bc', slots := bs' }) f5 f6 f10 (State.plainMethod.of_name (fun k' hk' => by cases f1.symm.trans hk'; rw [f2]; exact hpn)) (by show d' + 1 + 1 ≤ R.frames; omega) (by show 2 * 0 + (st.map fun v => v.category).sum + (ck.maxLocals + 11) + (8 + (M'.2.2.1 + 11) + (64 * d' + 20000)) ≤ R.locals; omega) (by show cells + bc' ≤ R.cells; omega) (by show slots + bs' ≤ R.slots; omega)
  generalize hU : ((T.setVm vm₁).setTop (F0 m pc ls st)).pushFrame (.java (entryFrame ⟨z.2.2.2.2.1, 1⟩ (Value.ref b :: As).toArray ck.maxLocals)) = U at Y hinto
  have hUv : U.vm = vm₁ := by rw [← hU]; rfl
  have hUh : U.heap = T.heap := by rw [← hU]; rfl
  have hKNU : g_KN K U := by
    have := hKN1.warm (U := U) (by rw [hUv]; exact State.WarmedH.refl _)
    exact this
  obtain ⟨lsK, hszK, hgo⟩ := hrun p (k_l K) e _ _ z.2.2.2.2.1 _ methk ck U Y hC.1 f7 (fun iF nt j nm ds G => by rw [hUv]; exact f19 iF nt j nm ds G) (by rw [hUh]; exact hcell)
  obtain ⟨tn, htn⟩ := cw_named (M := M') (hKNU.word hcw (g_cwd M') #[])
  have htt : tn = t := by
    have h1 := State.methodFound?_of_named htn ⟨hpl'.1, hpl'.2.1⟩
    have h2 : U.methodFound? M'.1.cls M'.1.name M'.1.desc = some t := by
      rw [hy.1, hy.2.1, hy.2.2]
      have h13 : U.vm.findClass z.2.2.2.1.implClass = some toy1 := by rw [hUv]; exact f13
      have h14 : U.vm.classes[toy1]? = some tk1 := by rw [hUv]; exact f14
      simp only [State.methodFound?, h13, h14, Option.bind_eq_bind, Option.bind_some]
      rw [hUv]
      have f15' := f15
      rw [show (T.setVm vm₁).vm = vm₁ from rfl] at f15'
      rw [f15']
      rfl
    exact Option.some.inj (h1.symm.trans h2)
  subst htt
  obtain ⟨metht, ct, ht1, ht2, ht3, ht4, ht5, ht6, ht7, ht8⟩ := g_cw_spec htn (hKNU.word hcw (g_cwd M') #[])
  obtain ⟨kt, hkt, hktn⟩ := className_of_methodNamed htn
  have hfct := findClass_of_methodNamed htn
  have hstat : metht.isStatic = true := Cond.static_spec htn ht1 (hKNU.word (lw_all_tbl hin) rfl #[])
  have hinit : kt.init = .initialized := Cond.initialized_spec hfct hkt (hKNU.word (lw_all_tbl hini) rfl #[])
  have hpoly : ∀ k' : Class, k'.name = M'.1.cls → ∀ y, signaturePolymorphic k' y = false := fun k' hk' y => by simp [signaturePolymorphic, hk', hpl'.1, hpl'.2.1]
  obtain ⟨k17, hk17⟩ : ∃ b9, ((memberRef z.2.2.2.2.1 iM).ask e.toSetting U.vm).1 = .ok (iC, z.2.2.2.1.implName, z.2.2.2.1.implDesc.toString, b9) :=
    memberRef_ask' (by rw [hUv]; exact f1) f3 (Or.inl (by rw [f4]; exact F.2.2.2.2.2.1)) (by rw [f4]; exact F.2.2.2.2.2.2.2.1)
  have hkt1 : toy1 = tn.cls := by
    have h13 : U.vm.findClass M'.1.cls = some toy1 := by rw [hUv, hy.1]; exact f13
    exact Option.some.inj (h13.symm.trans hfct)
  have href : plainRef U e z.2.2.2.2.1 iM := ⟨iC, _, _, k17, tn.cls, kt, hk17, by rw [← hkt1, hUv]; exact f17, hkt, by
    rw [Array.any_eq_false]
    intro i hi
    simp [hpoly kt hktn]⟩
  have htail := fw_tail (X := X₁) (M' := M') (d' := d') (bc' := bc') (bs' := bs') (X' := X') (Q := Q) (h := h) (n := n) hC.1 (g := F0 m pc ls st) rfl (by rw [hC.2.1]; exact hd) Y (by rw [hUh]; rfl) (by rw [f7]; exact hdq) (by rw [f7]; exact hdr) f12 f10 f9 (lsK := lsK) (hszK.trans f8.symm) (hKN.warm (U := (T.setVm vm₁).calling (F0 m pc ls st) ⟨z.2.2.2.2.1, 1⟩ (Value.ref b :: As).toArray) X₁.warmed) (by show g_RH K T.heap h n; rw [hT]; exact hR) hM hcw hini (Nat.le_refl _) (Nat.le_refl _) (Nat.le_refl _) (Nat.le_refl _) htn href (by rw [hUv]; exact f16) hkt ht1 (hpoly kt hktn _) hstat hinit (g_pl_len hpl' _ ht8)
  refine g_after (args := args) (d' := d') (av := (vals ++ As).toArray) (st := st) (len := 5) hC g1 g2 g3 g4 hl hs hc hsl kn kx ?_
  have hent : ∀ target, Steps p.tables e (.java (F0 m pc ls st) :: below) (U.setTop { method := ⟨z.2.2.2.2.1, 1⟩, pc := q, locals := lsK, stack := (vals ++ As).reverse, locked := none }) target → ∀ acts, Steps p.tables e below (doInvoke e ((T.setVm vm₁).setTop (F0 m pc ls st)) acts ⟨z.2.2.2.2.1, 1⟩ (Value.ref b :: As).toArray).1 target := fun target hgo2 acts => by
    rw [hinto acts, f8]
    exact Steps.weaken (mid := [.java (F0 m pc ls st)]) (hgo _ hgo2)
  rcases htail with ⟨v, B, X2, hpost, hsteps⟩ | ⟨y, B, X2, hpost, hsteps⟩
  · exact Or.inl ⟨v, vm₁, B, X₁.warmed, X2, hpost, fun target hrest => hstep₁ _ fun acts => (hent _ hsteps acts).trans hrest⟩
  · exact Or.inr ⟨y, vm₁, B, X₁.warmed, X2, hpost, hstep₁ _ fun acts => hent _ hsteps acts⟩
/-- a lambda's object is made: it holds what is captured -/
theorem r_lamM {st0 : List Value} {z : g_LI} {code : ByteArray} {ml iM iC iS nt kk index : Nat} (vals : List Value) (F : fwF z.2.2.2.1 z.1.cls code ml iM iC iS nt) (hz : z ∈ k_f K) (hkk : k_L K kk = z.2.2.2.2.1) (hm : z.1 = M.1) (hpc : z.2.1 = pc) (hone : z.2.2.2.2.2 = none) (hix : z.2.2.1 = index) (hcap : vals.length = z.2.2.2.1.captured.length) (hty : (fwL z.2.2.2.1 z.1.cls).2.1 = z.2.2.2.1.captured.toArray)
    (hd : decode M.2.1 pc = .ok (.invokedynamic index, 5)) (hnar : ∀ q ∈ z.2.2.2.1.captured.zip vals, narrow q.1 q.2 = q.2 ∧ fits q.1 q.2 = true) (hc : 1 ≤ bc) (hsl : vals.length ≤ bs) (hL : L.length = M.2.2.1) (hw : (st.map fun v => v.category).sum ≤ 8) (hw2 : (vals.map fun v => v.category).sum ≤ 8) (hst : st0 = vals.reverse ++ st) (k : g_G K M d (bc - 1) (bs - vals.length) P X (pc + 5) L (.ref n :: st) (g_up h n (g_la kk vals)) (n + 1)) : g_G K M d bc bs P X pc L st0 h n := by
  subst hst
  intro p e R s m args below meth c H locs cells slots ls hC g1 g2 g3 g4 hR hl hs T hT Z
  have hKN := hC.2.2.2.2.2.2.2.2.1
  have hsz : ls.size = c.maxLocals := by rw [hs.1, hL, hC.2.2.1]
  obtain ⟨mz, kz, cf, i0, p0, l, z1, z2, z3, z4, z5, z6, z7, z8⟩ := hKN.2.2.2.2.2.2.1 z hz
  have hname : kz.name = z.1.cls := by
    obtain ⟨k', hk', hn'⟩ := className_of_methodNamed z1
    cases hk'.symm.trans z2
    exact hn'
  have z10 := z1
  rw [hm] at z1
  cases hC.2.2.2.2.2.2.2.2.2.symm.trans z1
  have hl9 : l = .makes z.2.2.2.2.1 := by
    rcases z8 with ⟨a', -, q⟩ | ⟨q, -⟩
    · rw [hone] at q; cases q
    · exact q
  subst hl9
  rw [hpc] at z5
  rw [hix] at z4
  obtain ⟨bsm, nt9, desc, site, y1, y2, y3, y4⟩ := sh_site z4
  obtain ⟨kc, tk, file, methk0, ck0, toy, t0, fk1, fk2, fk3, fk4, fk5, fk6, fk7, fk8, fk9, fk10, fk11, fk12, fk13, fk14, fk15, fk16, fk17, ⟨fk18, fk19⟩, -⟩ := fw_facts F z2 hname z6 (fun o ok h1 h2 => by
    obtain ⟨cO, kO, hfO, hkO, -, -, -, hsz⟩ := Cond.instantiable_spec (hKN.word (lw_all_tbl q4091) rfl #[])
    cases hfO.symm.trans h1
    cases hkO.symm.trans h2
    exact Array.eq_empty_of_size_eq_zero hsz)
  have ety : kc.instanceTypes.toList = z.2.2.2.1.captured := by rw [fk18, hty]
  have ev : ((kc.instanceTypes.toList.zip vals).map fun (t, v) => narrow t v) = vals := by
    rw [ety]
    apply List.ext_getElem?
    intro i
    rw [List.getElem?_map]
    cases hv : vals[i]? with
    | none =>
      have : vals.length ≤ i := List.getElem?_eq_none_iff.mp hv
      rw [List.getElem?_eq_none (by rw [List.length_zip]; omega)]
      rfl
    | some v =>
      have hi := (List.getElem?_eq_some_iff.mp hv).1
      have hcx : (z.2.2.2.1.captured)[i]? = some (z.2.2.2.1.captured[i]'(by omega)) := List.getElem?_eq_getElem (by omega)
      have hzz : (z.2.2.2.1.captured.zip vals)[i]? = some (z.2.2.2.1.captured[i]'(by omega), v) := by
        rw [List.getElem?_zip_eq_some]
        exact ⟨hcx, hv⟩
      rw [hzz]
      exact congrArg some (hnar _ (List.mem_of_getElem? hzz)).1
  obtain ⟨Z2, hgo⟩ := Z.lambdaMakes hC.1 (g := F0 m pc ls (vals.reverse ++ st)) rfl hsz (by rw [hC.2.1]; exact hd) (vals := vals) (rest := st) z2 z5 z3 y1 y2 (parseLong_of_parse y3) (by rw [y4]; exact hcap) rfl fk1 (by
      have : e.platform.lambdaLinkWords = 3072 := by rw [Z.admits.platform]
      rw [this]
      show 2 * 0 + ((vals.reverse ++ st).map fun v => v.category).sum + 3072 ≤ R.locals
      rw [List.map_append, List.sum_append, List.map_reverse, List.sum_reverse]
      omega) (by omega) (by rw [ev]; omega) (fun i v hv => by
      rw [ev, List.getElem?_toArray] at hv
      have hi := (List.getElem?_eq_some_iff.mp hv).1
      have hcx : (z.2.2.2.1.captured)[i]? = some (z.2.2.2.1.captured[i]'(by omega)) := List.getElem?_eq_getElem (by omega)
      have hzz : (z.2.2.2.1.captured.zip vals)[i]? = some (z.2.2.2.1.captured[i]'(by omega), v) := by
        rw [List.getElem?_zip_eq_some]
        exact ⟨hcx, hv⟩
      have hit : kc.instanceTypes[i]? = some (z.2.2.2.1.captured[i]'(by omega)) := by
        rw [← Array.getElem?_toList, ety]
        exact hcx
      simp only [State.fitsSlot, State.slotType?, fk1, Option.bind_eq_bind, Option.bind_some, fk19, hit]
      exact (hnar _ (List.mem_of_getElem? hzz)).2)
  rw [ev] at Z2 hgo
  have hsize : H.size = n := hR.1
  have hR2 : g_RH K (T.pushCell { cls := z.2.2.2.2.1, slots := vals.toArray, vm := .none }).heap (g_up h n (g_la kk vals)) (n + 1) := by
    rw [← hT] at hR hsize
    refine hR.new (by show (T.heap.push _).size = _; rw [Array.size_push, hsize]) ?_ (fun q hq => ?_)
    · show (T.heap.push _)[n]? = some (g_cell (k_L K kk) vals)
      rw [← hsize, hkk]
      simp [g_cell]
    · show (T.heap.push _)[q]? = _
      rw [Array.getElem?_push, if_neg (by omega)]
  obtain ⟨t, a1, b1⟩ := k p e R s m args below meth c _ locs (cells + 1) (slots + vals.toArray.size) ls hC g1 g2 (by omega) (by simp only [List.size_toArray]; omega) hR2 hl hs _ rfl Z2
  refine ⟨t, hgo t ?_, b1⟩
  rw [show T.heap.size = n by rw [hT]; exact hsize]
  exact a1
end
/-- the forwarders of the three shapes -/
theorem fw_run0 {σ : Lambda.Shape} {own : String} {b : Nat} {x y : Int32} {u1 u2 : UInt8} : fwRun σ own ⟨#[27, 28, 184, u1, u2, 172]⟩ 3 2 [] [.int x, .int y] b := by
  intro p l e R' s9 cK below methk ck U Y hexec hcode hf hcell
  refine ⟨#[.val (.ref b), .val (.int x), .val (.int y)], rfl, fun target hgo => ?_⟩
  have hs : U.topJava?.isSome := Y.here.top
  have d0 : decode ck.code 0 = .ok (.iload_n 1, 1) := by rw [hcode]; rfl
  have d1 : decode ck.code 1 = .ok (.iload_n 2, 1) := by rw [hcode]; rfl
  have hloc : entryFrame ⟨cK, 1⟩ (Value.ref b :: [.int x, .int y]).toArray 3 = { method := ⟨cK, 1⟩, pc := 0, locals := #[.val (.ref b), .val (.int x), .val (.int y)], stack := [], locked := none } := rfl
  rw [hloc]
  jvm_step Y.here [hexec, d0]
  jvm_step Y.here [hexec, d1]
  exact hgo
theorem fw_run1 {σ : Lambda.Shape} {own nm ds : String} {b b2 iF nt : Nat} {x : Int32} {u1 u2 u3 u4 : UInt8} (G : fwG σ own iF nt 0 nm ds) (hF : iF = u1.toNat * 256 + u2.toNat) : fwRun σ own ⟨#[42, 180, u1, u2, 43, 184, u3, u4, 172]⟩ 2 5 [.int x] [.ref b2] b := by
  intro p l e R' s9 cK below methk ck U Y hexec hcode hf hcell
  refine ⟨#[.val (.ref b), .val (.ref b2)], rfl, fun target hgo => ?_⟩
  have hs : U.topJava?.isSome := Y.here.top
  obtain ⟨f0, hr0, hs0, hl0⟩ := hf iF nt 0 nm ds G
  have d0 : decode ck.code 0 = .ok (.aload_n 0, 1) := by rw [hcode]; rfl
  have d1 : decode ck.code 1 = .ok (.getfield iF, 3) := by rw [hcode, hF]; rfl
  have d4 : decode ck.code 4 = .ok (.aload_n 1, 1) := by rw [hcode]; rfl
  have hloc : entryFrame ⟨cK, 1⟩ (Value.ref b :: [.ref b2]).toArray 2 = { method := ⟨cK, 1⟩, pc := 0, locals := #[.val (.ref b), .val (.ref b2)], stack := [], locked := none } := rfl
  rw [hloc]
  jvm_step Y.here [hexec, d0, Value.isRef]
  jvm_step Y.here [hexec, d1, getfield.wp_ready (e := e) (s := U) (c := cK) (field := f0) (a := b) (rest := []) (cell := g_cell cK [.int x]) (v := .int x)
    (f := { method := ⟨cK, 1⟩, pc := 1, locals := #[.val (.ref b), .val (.ref b2)], stack := [.ref b], locked := none }) hs hr0 hs0 rfl hcell (by intro h; cases h) (by rw [hl0]; rfl)]
  jvm_step Y.here [hexec, d4, Value.isRef]
  exact hgo
theorem fw_run2 {σ : Lambda.Shape} {own nm ds nm2 ds2 : String} {b b2 iF nt iF2 nt2 : Nat} {x x2 : Int32} {u1 u2 u3 u4 u5 u6 : UInt8} (G : fwG σ own iF nt 0 nm ds) (hF : iF = u1.toNat * 256 + u2.toNat) (G2 : fwG σ own iF2 nt2 1 nm2 ds2) (hF2 : iF2 = u3.toNat * 256 + u4.toNat) : fwRun σ own ⟨#[42, 180, u1, u2, 42, 180, u3, u4, 43, 184, u5, u6, 172]⟩ 2 9 [.int x, .int x2] [.ref b2] b := by
  intro p l e R' s9 cK below methk ck U Y hexec hcode hf hcell
  refine ⟨#[.val (.ref b), .val (.ref b2)], rfl, fun target hgo => ?_⟩
  have hs : U.topJava?.isSome := Y.here.top
  obtain ⟨f0, hr0, hs0, hl0⟩ := hf iF nt 0 nm ds G
  obtain ⟨f1, hr1, hs1, hl1⟩ := hf iF2 nt2 1 nm2 ds2 G2
  have d0 : decode ck.code 0 = .ok (.aload_n 0, 1) := by rw [hcode]; rfl
  have d1 : decode ck.code 1 = .ok (.getfield iF, 3) := by rw [hcode, hF]; rfl
  have d4 : decode ck.code 4 = .ok (.aload_n 0, 1) := by rw [hcode]; rfl
  have d5 : decode ck.code 5 = .ok (.getfield iF2, 3) := by rw [hcode, hF2]; rfl
  have d8 : decode ck.code 8 = .ok (.aload_n 1, 1) := by rw [hcode]; rfl
  have hloc : entryFrame ⟨cK, 1⟩ (Value.ref b :: [.ref b2]).toArray 2 = { method := ⟨cK, 1⟩, pc := 0, locals := #[.val (.ref b), .val (.ref b2)], stack := [], locked := none } := rfl
  rw [hloc]
  jvm_step Y.here [hexec, d0, Value.isRef]
  jvm_step Y.here [hexec, d1, getfield.wp_ready (e := e) (s := U) (c := cK) (field := f0) (a := b) (rest := []) (cell := g_cell cK [.int x, .int x2]) (v := .int x)
    (f := { method := ⟨cK, 1⟩, pc := 1, locals := #[.val (.ref b), .val (.ref b2)], stack := [.ref b], locked := none }) hs hr0 hs0 rfl hcell (by intro h; cases h) (by rw [hl0]; rfl)]
  jvm_step Y.here [hexec, d4, Value.isRef]
  jvm_step Y.here [hexec, d5, getfield.wp_ready (e := e) (s := U) (c := cK) (field := f1) (a := b) (rest := [.int x]) (cell := g_cell cK [.int x, .int x2]) (v := .int x2)
    (f := { method := ⟨cK, 1⟩, pc := 5, locals := #[.val (.ref b), .val (.ref b2)], stack := [.ref b, .int x], locked := none }) hs hr1 hs1 rfl hcell (by intro h; cases h) (by rw [hl1]; rfl)]
  jvm_step Y.here [hexec, d8, Value.isRef]
  exact hgo
