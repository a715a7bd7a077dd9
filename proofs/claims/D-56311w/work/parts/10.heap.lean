/-! rows that read and write the pure heap -/
set_option maxRecDepth 100000
theorem g_all_wd : ∀ w ∈ lw_all, g_wd w = true := List.all_eq_true.mp (by decide +kernel : lw_all.all g_wd = true)
theorem g_all {K : g_K} {s : State} (h : g_KN K s) (args : Array Value) : ∀ w ∈ lw_all, w.before args s = true := fun w hw => h.word (lw_all_tbl hw) (g_all_wd w hw) args
/-- a class of g_CL's, with what its fields are -/
def g_CK (ci : Nat) (C : String) (T : u_T) (N : Nat) : Prop := g_CL[ci]? = some (C, T, N) ∧ (∀ w ∈ u_ws C T N, w ∈ lw_all) ∧ (∀ a, a < N → ∀ b, b < N → a ≠ b → (T a).2.1 ≠ (T b).2.1) ∧ ∃ ty : Nat → FieldType, ∀ k, k < N → parseFieldDescriptor (T k).2.2.1 = some (ty k)
theorem g_same {s : State} {args : Array Value} (hts : ∀ w ∈ lw_all, w.before args s = true) {ref O nm ds : String} {x : ClassId × Class × Nat × Field} (h : ref = O ∨ Cond.sameField ref O nm ds ∈ lw_all) (hi : s.fieldFound? O nm ds = some x) : s.fieldFound? ref nm ds = some x := by
  rcases h with rfl | h
  · exact hi
  · exact u_same (hts _ h) x hi
theorem g_apart {K : g_K} {s : State} {args : Array Value} (hKN : g_KN K s) {ci : Nat} {C : String} {T : u_T} {N : Nat} (hc : g_CK ci C T N) : ∀ x y, x < N → y < N → x ≠ y → ((k_D K).2 ci) x ≠ ((k_D K).2 ci) y := by
  obtain ⟨h1, h2, h3, ty, h4⟩ := hc
  intro x y hx hy hne
  obtain ⟨hS, -⟩ := hKN.1 ci _ h1
  obtain ⟨_, _, _, fa, hia, ea⟩ := hS x hx
  obtain ⟨_, _, _, fb, hib, eb⟩ := hS y hy
  have hts := g_all hKN args
  rw [← ea, ← eb]
  refine u_apart (u_lays hts h2 hx) (u_lays hts h2 hy) hia hib ?_
  rw [(State.fieldFound?_type hia (h4 x hx)).1, (State.fieldFound?_type hib (h4 y hy)).1]
  exact h3 x hx y hy hne
theorem g_toPut {K : g_K} {a ci : Nat} {C : String} {T : u_T} {N : Nat} (hc : g_CL[ci]? = some (C, T, N)) {H1 : Heap} {cell : Cell} {fs : List Value} {j : Nat} {v : Value} (hlen : fs.length = N) (hj : j < N) (hap : ∀ x y, x < N → y < N → x ≠ y → ((k_D K).2 ci) x ≠ ((k_D K).2 ci) y)
    (q2 : cell.cls = (k_D K).1 ci) (q3 : cell.vm = .none) (q4 : ∀ k, k < N → cell.slots[(k_D K).2 ci k]? = some (vp_V fs k)) (hmo : k_b K ≤ a → cell.monitor.owner = none ∧ cell.monitor.count = 0) (e1 : H1[a]? = some (cell.setSlot ((k_D K).2 ci j) v)) : g_at K a (g_ob ci (fs.set j v)) H1 := by
  refine ⟨_, hc, ⟨by simpa using hlen, fun b c' e => by rw [e1] at e; cases e; exact hmo b⟩, t_OB.to (V := updV (vp_V fs) j v) ⟨_, e1, q2, q3, t_set q4 hap hj v⟩ (fun k _ => vp_updV_set (by omega) v k)⟩
section
variable {K : g_K} {M : g_M} {d bc bs : Nat} {P : g_Q} {X : g_X} {pc : Nat} {L : List (Option Value)} {st : List Value} {h : g_P} {n : Nat}
theorem r_getf {ref C : String} {T : u_T} {N ci index : Nat} (j : Nat) {fs : List Value} {v : Value} {a : Nat} (hd : decode M.2.1 pc = .ok (.getfield index, 3)) (hc : g_CK ci C T N) (hj : j < N) (hlink : Cond.fieldLink M.1.cls index ref (T j).2.1 (T j).2.2.1 ∈ lw_all) (hsame : ref = (T j).1 ∨ Cond.sameField ref (T j).1 (T j).2.1 (T j).2.2.1 ∈ lw_all)
    (ho : h a = some (g_ob ci fs)) (hv : fs[j]? = some v) (k : g_G K M d bc bs P X (pc + 3) L (v :: st) h n) : g_G K M d bc bs P X pc L (.ref a :: st) h n := by
  refine g_go (fun p e R s m args below meth c H locs cells slots ls Q hM hR hl k => ?_) k
  obtain ⟨hx, hb, -, -, hown, -, -, -, hKN, -⟩ := hM
  obtain ⟨r, h1, hlen, cell, q1, q2, q3, q4⟩ := hR.2.2.1 a _ ho
  have hr : r = (C, T, N) := Option.some.inj (h1.symm.trans hc.1)
  subst hr
  obtain ⟨hS, hfc, kC, hkC, hkind⟩ := hKN.1 ci _ hc.1
  obtain ⟨cf, kf, fi, f, hi, hsl⟩ := hS j hj
  have hts := g_all hKN args
  refine W.getf hx hb hown (hts _ hlink) (g_same hts hsame hi) (u_facts hfc hkC (u_lays hts hc.2.1 hj) hi).1 q1 (by rw [q3]; exact fun h => by cases h) (v := v) ?_ rfl rfl hd (k ls hl)
  rw [hsl, q4 j hj]
  simp [vp_V, hv]
theorem r_getfN {ref C host : String} {T : u_T} {N ci index : Nat} (j : Nat) {fs : List Value} {v : Value} {a : Nat} (hd : decode M.2.1 pc = .ok (.getfield index, 3)) (hc : g_CK ci C T N) (hj : j < N) (hlink : Cond.fieldLinkNest M.1.cls index ref (T j).2.1 (T j).2.2.1 host ∈ lw_tbl) (hsame : ref = (T j).1 ∨ Cond.sameField ref (T j).1 (T j).2.1 (T j).2.2.1 ∈ lw_all)
    (ho : h a = some (g_ob ci fs)) (hv : fs[j]? = some v) (k : g_G K M d bc bs P X (pc + 3) L (v :: st) h n) : g_G K M d bc bs P X pc L (.ref a :: st) h n := by
  refine g_go (fun p e R s m args below meth c H locs cells slots ls Q hM hR hl k => ?_) k
  obtain ⟨hx, hb, -, -, hown, -, -, -, hKN, -⟩ := hM
  obtain ⟨r, h1, hlen, cell, q1, q2, q3, q4⟩ := hR.2.2.1 a _ ho
  have hr : r = (C, T, N) := Option.some.inj (h1.symm.trans hc.1)
  subst hr
  obtain ⟨hS, hfc, kC, hkC, hkind⟩ := hKN.1 ci _ hc.1
  obtain ⟨cf, kf, fi, f, hi, hsl⟩ := hS j hj
  have hts := g_all hKN args
  refine va_Wgetf hx hb hown (hKN.word hlink rfl args) (g_same hts hsame hi) (u_facts hfc hkC (u_lays hts hc.2.1 hj) hi).1 q1 (by rw [q3]; exact fun h => by cases h) (v := v) ?_ rfl rfl hd (k ls hl)
  rw [hsl, q4 j hj]
  simp [vp_V, hv]
theorem r_putf {ref C : String} {T : u_T} {N ci index : Nat} (j : Nat) {fs : List Value} {ty : FieldType} {v : Value} {a : Nat} (hd : decode M.2.1 pc = .ok (.putfield index, 3)) (hc : g_CK ci C T N) (hj : j < N) (hlink : Cond.fieldLink M.1.cls index ref (T j).2.1 (T j).2.2.1 ∈ lw_all) (hsame : ref = (T j).1 ∨ Cond.sameField ref (T j).1 (T j).2.1 (T j).2.2.1 ∈ lw_all)
    (hfin : (T j).2.2.2 = false) (hd2 : parseFieldDescriptor (T j).2.2.1 = some ty) (hn : narrow ty v = v) (hft : fits ty v = true) (hb0 : k_b K ≤ a) (ho : h a = some (g_ob ci fs)) (k : g_G K M d bc bs P X (pc + 3) L st (g_up h a (g_ob ci (fs.set j v))) n) : g_G K M d bc bs P X pc L (v :: .ref a :: st) h n := by
  intro p e R s m args below meth c H locs cells slots ls hM g1 g2 g3 g4 hR hl hs
  have hM0 := hM
  obtain ⟨hx, hb, -, -, hown, -, -, -, hKN, -⟩ := hM
  have hap := g_apart (args := args) hKN hc
  obtain ⟨r, h1, hlen, cell, q1, q2, q3, q4⟩ := hR.2.2.1 a _ ho
  have hr : r = (C, T, N) := Option.some.inj (h1.symm.trans hc.1)
  subst hr
  obtain ⟨hS, hfc, kC, hkC, hkind⟩ := hKN.1 ci _ hc.1
  obtain ⟨cf, kf, fi, f, hi, hsl⟩ := hS j hj
  have hts := g_all hKN args
  have hlay := hts _ (hc.2.1 _ (u_in_lay hj))
  unfold u_lay at hlay
  rw [if_neg (by rw [hfin]; decide)] at hlay
  have hst := (u_facts hfc hkC (u_lays hts hc.2.1 hj) hi).1
  have h6 := u_store hfc hkC hkind hlay hi hd2 hn hft
  refine W.putK hx hb (f := f) ⟨hown, hts _ hlink, ⟨_, _, _, g_same hts hsame hi⟩, hst⟩ (by rw [q2]; exact h6) q1 q3 (by rw [hsl]; exact k2_hasslot (q4 j hj)) rfl rfl hd fun H' e1 e2 e3 => ?_
  rw [hsl] at e1
  exact k p e R s m args below meth c H' _ cells slots ls hM0 g1 g2 g3 g4 (hR.put hb0 e2 (g_toPut hc.1 hlen.1 hj hap q2 q3 q4 (fun b => hlen.2 b _ q1) e1) e3) (fun z hz => by
    rcases List.mem_append.mp hz with q | q
    · exact hl z q
    · rw [List.mem_singleton.mp q]; exact hb0) hs
theorem r_putfN {ref C host : String} {T : u_T} {N ci index : Nat} (j : Nat) {fs : List Value} {ty : FieldType} {v : Value} {a : Nat} (hd : decode M.2.1 pc = .ok (.putfield index, 3)) (hc : g_CK ci C T N) (hj : j < N) (hlink : Cond.fieldLinkNest M.1.cls index ref (T j).2.1 (T j).2.2.1 host ∈ lw_tbl) (hsame : ref = (T j).1 ∨ Cond.sameField ref (T j).1 (T j).2.1 (T j).2.2.1 ∈ lw_all)
    (hfin : (T j).2.2.2 = false) (hd2 : parseFieldDescriptor (T j).2.2.1 = some ty) (hn : narrow ty v = v) (hft : fits ty v = true) (hb0 : k_b K ≤ a) (ho : h a = some (g_ob ci fs)) (k : g_G K M d bc bs P X (pc + 3) L st (g_up h a (g_ob ci (fs.set j v))) n) : g_G K M d bc bs P X pc L (v :: .ref a :: st) h n := by
  intro p e R s m args below meth c H locs cells slots ls hM g1 g2 g3 g4 hR hl hs
  have hM0 := hM
  obtain ⟨hx, hb, -, -, hown, -, -, -, hKN, -⟩ := hM
  have hap := g_apart (args := args) hKN hc
  obtain ⟨r, h1, hlen, cell, q1, q2, q3, q4⟩ := hR.2.2.1 a _ ho
  have hr : r = (C, T, N) := Option.some.inj (h1.symm.trans hc.1)
  subst hr
  obtain ⟨hS, hfc, kC, hkC, hkind⟩ := hKN.1 ci _ hc.1
  obtain ⟨cf, kf, fi, f, hi, hsl⟩ := hS j hj
  have hts := g_all hKN args
  have hlay := hts _ (hc.2.1 _ (u_in_lay hj))
  unfold u_lay at hlay
  rw [if_neg (by rw [hfin]; decide)] at hlay
  have hst := (u_facts hfc hkC (u_lays hts hc.2.1 hj) hi).1
  have h6 := u_store hfc hkC hkind hlay hi hd2 hn hft
  refine va_WputK hx hb (f := f) hown (hKN.word hlink rfl args) (g_same hts hsame hi) hst (by rw [q2]; exact h6) q1 q3 (by rw [hsl]; exact k2_hasslot (q4 j hj)) rfl rfl hd fun H' e1 e2 e3 => ?_
  rw [hsl] at e1
  exact k p e R s m args below meth c H' _ cells slots ls hM0 g1 g2 g3 g4 (hR.put hb0 e2 (g_toPut hc.1 hlen.1 hj hap q2 q3 q4 (fun b => hlen.2 b _ q1) e1) e3) (fun z hz => by
    rcases List.mem_append.mp hz with q | q
    · exact hl z q
    · rw [List.mem_singleton.mp q]; exact hb0) hs
/-- a final field, in its class's own constructor -/
theorem r_putfF {ref C : String} {T : u_T} {N ci index : Nat} (j : Nat) {fs : List Value} {ty : FieldType} {v : Value} {a : Nat} (hd : decode M.2.1 pc = .ok (.putfield index, 3)) (hc : g_CK ci C T N) (hj : j < N) (hlink : Cond.fieldLink M.1.cls index ref (T j).2.1 (T j).2.2.1 ∈ lw_all) (hsame : ref = (T j).1 ∨ Cond.sameField ref (T j).1 (T j).2.1 (T j).2.2.1 ∈ lw_all)
    (hfin : (T j).2.2.2 = true) (hin2 : M.1.name = "<init>") (hdecl : (T j).1 = M.1.cls) (hd2 : parseFieldDescriptor (T j).2.2.1 = some ty) (hn : narrow ty v = v) (hft : fits ty v = true) (hb0 : k_b K ≤ a) (ho : h a = some (g_ob ci fs)) (k : g_G K M d bc bs P X (pc + 3) L st (g_up h a (g_ob ci (fs.set j v))) n) : g_G K M d bc bs P X pc L (v :: .ref a :: st) h n := by
  intro p e R s m args below meth c H locs cells slots ls hM g1 g2 g3 g4 hR hl hs
  have hM0 := hM
  obtain ⟨hx, hb, -, -, hown, hnm, -, -, hKN, -⟩ := hM
  have hap := g_apart (args := args) hKN hc
  obtain ⟨r, h1, hlen, cell, q1, q2, q3, q4⟩ := hR.2.2.1 a _ ho
  have hr : r = (C, T, N) := Option.some.inj (h1.symm.trans hc.1)
  subst hr
  obtain ⟨hS, hfc, kC, hkC, hkind⟩ := hKN.1 ci _ hc.1
  obtain ⟨cf, kf, fi, f, hi, hsl⟩ := hS j hj
  have hts := g_all hKN args
  have hlay := hts _ (hc.2.1 _ (u_in_lay hj))
  unfold u_lay at hlay
  rw [if_pos hfin] at hlay
  have hst := (u_facts hfc hkC (u_lays hts hc.2.1 hj) hi).1
  have hcf : m.cls = cf := by
    obtain ⟨_, _, c', _, _, _, -, -, hf', -, -, -, hown2, -⟩ := Cond.laysFinal_spec hlay
    have e1 : c' = cf := by have := hi.symm.trans hf'; simp at this; exact this.1.symm
    rw [hdecl] at hown2
    rw [← e1]; exact Option.some.inj (hown.symm.trans hown2)
  have h6 := u_fits hfc hkC hkind (Or.inr hlay) hi hd2 hn hft
  refine W.putFinK hx hb hown (hts _ hlink) (g_same hts hsame hi) hst hcf (hnm.trans hin2) (by rw [q2]; exact h6) q1 q3 (by rw [hsl]; exact k2_hasslot (q4 j hj)) rfl rfl hd fun H' e1 e2 e3 => ?_
  rw [hsl] at e1
  exact k p e R s m args below meth c H' _ cells slots ls hM0 g1 g2 g3 g4 (hR.put hb0 e2 (g_toPut hc.1 hlen.1 hj hap q2 q3 q4 (fun b => hlen.2 b _ q1) e1) e3) (fun z hz => by
    rcases List.mem_append.mp hz with q | q
    · exact hl z q
    · rw [List.mem_singleton.mp q]; exact hb0) hs
theorem r_new {C : String} {T : u_T} {N ci index : Nat} {fs : List Value} (hd : decode M.2.1 pc = .ok (.new index, 3)) (hc : g_CK ci C T N) (hcl : Cond.classLink M.1.cls index C ∈ lw_all) (hinst : Cond.instantiable C N ∈ lw_all) (hini : Cond.initialized C ∈ lw_all) (hfl : fs.length = N)
    (hfs : ∀ j, j < N → ∃ ty, parseFieldDescriptor (T j).2.2.1 = some ty ∧ defaultValue ty = vp_V fs j) (h1 : 1 ≤ bc) (h2 : N ≤ bs) (k : g_G K M d (bc - 1) (bs - N) P X (pc + 3) L (.ref n :: st) (g_up h n (g_ob ci fs)) (n + 1)) : g_G K M d bc bs P X pc L st h n := by
  intro p e R s m args below meth c H locs cells slots ls hM g1 g2 g3 g4 hR hl hs
  have hM0 := hM
  obtain ⟨hx, hb, -, -, hown, -, -, -, hKN, -⟩ := hM
  have hts := g_all hKN args
  have hKn := hKN.1 ci _ hc.1
  refine W.newcK hx hb hown (hts _ hcl) (hts _ hinst) (hts _ hini) rfl hd (by omega) (by omega) hKn.2.1 hR.1 fun H1 kC hkC e1 z1 o1 => ?_
  obtain ⟨ty, hty⟩ := hc.2.2.2
  refine k p e R s m args below meth c H1 _ (cells + 1) (slots + N) ls hM0 g1 g2 (by omega) (by omega) (hR.new z1 ⟨_, hc.1, ⟨hfl, fun _ cell e => by rw [e1] at e; cases e; exact ⟨rfl, rfl⟩⟩, (u_born ty hts hc.2.1 hKn hkC e1 hty).to fun j hj => ?_⟩ o1) hl hs
  obtain ⟨ty', h3, h4⟩ := hfs j hj
  have e9 : ty j = ty' := Option.some.inj ((hty j hj).symm.trans h3)
  rw [e9]
  exact h4
-- arrays
theorem g_isArr {s : State} (hKN : g_KN K s) {ai : Nat} {ty : FieldType} (ha : g_AT[ai]? = some ty) (vs : List Value) : s.isArrayOf (g_cell (k_A K ai) vs) ty := by
  rw [g_cell_arrV]
  exact (hKN.2.1 ai ty ha).1 _ _
theorem g_inB {cA : ClassId} {vs : List Value} {j : Nat} {v : Value} (hj : vs[j]? = some v) (h31 : j < 2147483648) : ¬ (nI j < 0 ∨ (g_cell cA vs).slots.size ≤ (nI j).toNatClampNeg) := by
  have h1 : j < vs.length := (List.getElem?_eq_some_iff.mp hj).1
  have h2 : (g_cell cA vs).slots.size = vs.length := by simp [g_cell]
  rw [h2, nI_clamp (by simpa using h31)]
  rintro (h3 | h3)
  · exact nI_pos (by simpa using h31) h3
  · omega
theorem g_rdA {cA : ClassId} {vs : List Value} {j : Nat} {v : Value} (hj : vs[j]? = some v) (h31 : j < 2147483648) : (g_cell cA vs).slots[(nI j).toNatClampNeg]? = some v := by
  rw [nI_clamp (by simpa using h31)]
  simpa [g_cell] using hj
theorem g_setA {cA : ClassId} {vs : List Value} {j : Nat} {v : Value} : (g_cell cA vs).setSlot j v = g_cell cA (vs.set j v) := by
  simp [g_cell, Cell.setSlot]
theorem r_iaload {a : Nat} {i : Int32} {vs : List Value} {v : Value} (j : Nat) (hd : decode M.2.1 pc = .ok (.iaload, 1)) (ho : h a = some (g_ar 0 vs)) (hi : i = nI j) (h31 : j < 2147483648) (hj : vs[j]? = some v) (k : g_G K M d bc bs P X (pc + 1) L (v :: st) h n) : g_G K M d bc bs P X pc L (.int i :: .ref a :: st) h n := by
  subst hi
  refine g_go (fun p e R s m args below meth c H locs cells slots ls Q hM hR hl k => ?_) k
  exact W.iald hM.1 hM.2.1 (hR.2.2.1 a _ ho) (g_isArr hM.2.2.2.2.2.2.2.2.1 (ai := 0) rfl vs) (fun h => by cases h) (g_inB hj h31) (g_rdA hj h31) rfl rfl hd (k ls hl)
theorem r_laload {a : Nat} {i : Int32} {vs : List Value} {v : Value} (j : Nat) (hd : decode M.2.1 pc = .ok (.laload, 1)) (ho : h a = some (g_ar 1 vs)) (hi : i = nI j) (h31 : j < 2147483648) (hj : vs[j]? = some v) (k : g_G K M d bc bs P X (pc + 1) L (v :: st) h n) : g_G K M d bc bs P X pc L (.int i :: .ref a :: st) h n := by
  subst hi
  refine g_go (fun p e R s m args below meth c H locs cells slots ls Q hM hR hl k => ?_) k
  exact W.lald hM.1 hM.2.1 (hR.2.2.1 a _ ho) (g_isArr hM.2.2.2.2.2.2.2.2.1 (ai := 1) rfl vs) (fun h => by cases h) (g_inB hj h31) (g_rdA hj h31) rfl rfl hd (k ls hl)
theorem r_daload {a : Nat} {i : Int32} {vs : List Value} {v : Value} (j : Nat) (hd : decode M.2.1 pc = .ok (.daload, 1)) (ho : h a = some (g_ar 2 vs)) (hi : i = nI j) (h31 : j < 2147483648) (hj : vs[j]? = some v) (k : g_G K M d bc bs P X (pc + 1) L (v :: st) h n) : g_G K M d bc bs P X pc L (.int i :: .ref a :: st) h n := by
  subst hi
  refine g_go (fun p e R s m args below meth c H locs cells slots ls Q hM hR hl k => ?_) k
  exact W.dald hM.1 hM.2.1 (hR.2.2.1 a _ ho) (g_isArr hM.2.2.2.2.2.2.2.2.1 (ai := 2) rfl vs) (fun h => by cases h) (g_inB hj h31) (g_rdA hj h31) rfl rfl hd (k ls hl)
theorem r_caload {a : Nat} {i : Int32} {vs : List Value} {v : Value} (j : Nat) (hd : decode M.2.1 pc = .ok (.caload, 1)) (ho : h a = some (g_ar 3 vs)) (hi : i = nI j) (h31 : j < 2147483648) (hj : vs[j]? = some v) (k : g_G K M d bc bs P X (pc + 1) L (v :: st) h n) : g_G K M d bc bs P X pc L (.int i :: .ref a :: st) h n := by
  subst hi
  refine g_go (fun p e R s m args below meth c H locs cells slots ls Q hM hR hl k => ?_) k
  exact W.cald hM.1 hM.2.1 (hR.2.2.1 a _ ho) (g_isArr hM.2.2.2.2.2.2.2.2.1 (ai := 3) rfl vs) (fun h => by cases h) (g_inB hj h31) (g_rdA hj h31) rfl rfl hd (k ls hl)
theorem r_baload {a : Nat} {i : Int32} {vs : List Value} {v : Value} (j : Nat) (hd : decode M.2.1 pc = .ok (.baload, 1)) (ho : h a = some (g_ar 4 vs)) (hi : i = nI j) (h31 : j < 2147483648) (hj : vs[j]? = some v) (k : g_G K M d bc bs P X (pc + 1) L (v :: st) h n) : g_G K M d bc bs P X pc L (.int i :: .ref a :: st) h n := by
  subst hi
  refine g_go (fun p e R s m args below meth c H locs cells slots ls Q hM hR hl k => ?_) k
  exact W.bald hM.1 hM.2.1 (hR.2.2.1 a _ ho) (g_isArr hM.2.2.2.2.2.2.2.2.1 (ai := 4) rfl vs) (fun h => by cases h) (g_inB hj h31) (g_rdA hj h31) rfl rfl hd (k ls hl)
theorem r_aaload {a ai : Nat} {ty : FieldType} {i : Int32} {vs : List Value} {v : Value} (j : Nat) (hd : decode M.2.1 pc = .ok (.aaload, 1)) (ha : g_AT[ai]? = some ty) (hr : ty.isReference = true) (ho : h a = some (g_ar ai vs)) (hi : i = nI j) (h31 : j < 2147483648) (hj : vs[j]? = some v) (k : g_G K M d bc bs P X (pc + 1) L (v :: st) h n) : g_G K M d bc bs P X pc L (.int i :: .ref a :: st) h n := by
  subst hi
  refine g_go (fun p e R s m args below meth c H locs cells slots ls Q hM hR hl k => ?_) k
  exact W.aald hM.1 hM.2.1 (hR.2.2.1 a _ ho) (g_isArr hM.2.2.2.2.2.2.2.2.1 ha vs) hr (fun h => by cases h) (g_inB hj h31) (g_rdA hj h31) rfl rfl hd (k ls hl)
theorem r_iastore {a : Nat} {i : Int32} {x : Int32} {vs : List Value} (j : Nat) (hd : decode M.2.1 pc = .ok (.iastore, 1)) (hb0 : k_b K ≤ a) (ho : h a = some (g_ar 0 vs)) (hi : i = nI j) (h31 : j < 2147483648) (hj : j < vs.length) (k : g_G K M d bc bs P X (pc + 1) L st (g_up h a (g_ar 0 (vs.set j (.int x)))) n) : g_G K M d bc bs P X pc L (.int x :: .int i :: .ref a :: st) h n := by
  subst hi
  intro p e R s m args below meth c H locs cells slots ls hM g1 g2 g3 g4 hR hl hs
  obtain ⟨v, hj'⟩ : ∃ v, vs[j]? = some v := ⟨_, List.getElem?_eq_getElem hj⟩
  refine W.iast hM.1 hM.2.1 (hR.2.2.1 a _ ho) (g_isArr hM.2.2.2.2.2.2.2.2.1 (ai := 0) rfl vs) (fun h => by cases h) (g_inB hj' h31) rfl rfl hd fun H' e1 e2 e3 => ?_
  rw [nI_clamp (by simpa using h31), g_setA] at e1
  exact k p e R s m args below meth c H' _ cells slots ls hM g1 g2 g3 g4 (hR.put hb0 e2 e1 e3) (fun z hz => by
    rcases List.mem_append.mp hz with q | q
    · exact hl z q
    · rw [List.mem_singleton.mp q]; exact hb0) hs
theorem r_lastore {a : Nat} {i : Int32} {x : Int64} {vs : List Value} (j : Nat) (hd : decode M.2.1 pc = .ok (.lastore, 1)) (hb0 : k_b K ≤ a) (ho : h a = some (g_ar 1 vs)) (hi : i = nI j) (h31 : j < 2147483648) (hj : j < vs.length) (k : g_G K M d bc bs P X (pc + 1) L st (g_up h a (g_ar 1 (vs.set j (.long x)))) n) : g_G K M d bc bs P X pc L (.long x :: .int i :: .ref a :: st) h n := by
  subst hi
  intro p e R s m args below meth c H locs cells slots ls hM g1 g2 g3 g4 hR hl hs
  obtain ⟨v, hj'⟩ : ∃ v, vs[j]? = some v := ⟨_, List.getElem?_eq_getElem hj⟩
  refine W.last hM.1 hM.2.1 (hR.2.2.1 a _ ho) (g_isArr hM.2.2.2.2.2.2.2.2.1 (ai := 1) rfl vs) (fun h => by cases h) (g_inB hj' h31) rfl rfl hd fun H' e1 e2 e3 => ?_
  rw [nI_clamp (by simpa using h31), g_setA] at e1
  exact k p e R s m args below meth c H' _ cells slots ls hM g1 g2 g3 g4 (hR.put hb0 e2 e1 e3) (fun z hz => by
    rcases List.mem_append.mp hz with q | q
    · exact hl z q
    · rw [List.mem_singleton.mp q]; exact hb0) hs
theorem r_dastore {a : Nat} {i : Int32} {x : UInt64} {vs : List Value} (j : Nat) (hd : decode M.2.1 pc = .ok (.dastore, 1)) (hb0 : k_b K ≤ a) (ho : h a = some (g_ar 2 vs)) (hi : i = nI j) (h31 : j < 2147483648) (hj : j < vs.length) (k : g_G K M d bc bs P X (pc + 1) L st (g_up h a (g_ar 2 (vs.set j (.double x)))) n) : g_G K M d bc bs P X pc L (.double x :: .int i :: .ref a :: st) h n := by
  subst hi
  intro p e R s m args below meth c H locs cells slots ls hM g1 g2 g3 g4 hR hl hs
  obtain ⟨v, hj'⟩ : ∃ v, vs[j]? = some v := ⟨_, List.getElem?_eq_getElem hj⟩
  refine W.dast hM.1 hM.2.1 (hR.2.2.1 a _ ho) (g_isArr hM.2.2.2.2.2.2.2.2.1 (ai := 2) rfl vs) (fun h => by cases h) (g_inB hj' h31) rfl rfl hd fun H' e1 e2 e3 => ?_
  rw [nI_clamp (by simpa using h31), g_setA] at e1
  exact k p e R s m args below meth c H' _ cells slots ls hM g1 g2 g3 g4 (hR.put hb0 e2 e1 e3) (fun z hz => by
    rcases List.mem_append.mp hz with q | q
    · exact hl z q
    · rw [List.mem_singleton.mp q]; exact hb0) hs
theorem r_castore {a : Nat} {i : Int32} {x : Int32} {vs : List Value} (j : Nat) (hd : decode M.2.1 pc = .ok (.castore, 1)) (hb0 : k_b K ≤ a) (ho : h a = some (g_ar 3 vs)) (hi : i = nI j) (h31 : j < 2147483648) (hj : j < vs.length) (hn : narrow .char (.int x) = .int x) (k : g_G K M d bc bs P X (pc + 1) L st (g_up h a (g_ar 3 (vs.set j (.int x)))) n) : g_G K M d bc bs P X pc L (.int x :: .int i :: .ref a :: st) h n := by
  subst hi
  intro p e R s m args below meth c H locs cells slots ls hM g1 g2 g3 g4 hR hl hs
  obtain ⟨v, hj'⟩ : ∃ v, vs[j]? = some v := ⟨_, List.getElem?_eq_getElem hj⟩
  refine W.cast hM.1 hM.2.1 (hR.2.2.1 a _ ho) (g_isArr hM.2.2.2.2.2.2.2.2.1 (ai := 3) rfl vs) (fun h => by cases h) (g_inB hj' h31) rfl rfl hd fun H' e1 e2 e3 => ?_
  rw [hn, nI_clamp (by simpa using h31), g_setA] at e1
  exact k p e R s m args below meth c H' _ cells slots ls hM g1 g2 g3 g4 (hR.put hb0 e2 e1 e3) (fun z hz => by
    rcases List.mem_append.mp hz with q | q
    · exact hl z q
    · rw [List.mem_singleton.mp q]; exact hb0) hs
theorem r_bastore {a : Nat} {i : Int32} {x : Int32} {vs : List Value} (j : Nat) (hd : decode M.2.1 pc = .ok (.bastore, 1)) (hb0 : k_b K ≤ a) (ho : h a = some (g_ar 4 vs)) (hi : i = nI j) (h31 : j < 2147483648) (hj : j < vs.length) (hn : narrow .byte (.int x) = .int x) (k : g_G K M d bc bs P X (pc + 1) L st (g_up h a (g_ar 4 (vs.set j (.int x)))) n) : g_G K M d bc bs P X pc L (.int x :: .int i :: .ref a :: st) h n := by
  subst hi
  intro p e R s m args below meth c H locs cells slots ls hM g1 g2 g3 g4 hR hl hs
  obtain ⟨v, hj'⟩ : ∃ v, vs[j]? = some v := ⟨_, List.getElem?_eq_getElem hj⟩
  refine W.bast hM.1 hM.2.1 (hR.2.2.1 a _ ho) (g_isArr hM.2.2.2.2.2.2.2.2.1 (ai := 4) rfl vs) (fun h => by cases h) (g_inB hj' h31) rfl rfl hd fun H' e1 e2 e3 => ?_
  rw [hn, nI_clamp (by simpa using h31), g_setA] at e1
  exact k p e R s m args below meth c H' _ cells slots ls hM g1 g2 g3 g4 (hR.put hb0 e2 e1 e3) (fun z hz => by
    rcases List.mem_append.mp hz with q | q
    · exact hl z q
    · rw [List.mem_singleton.mp q]; exact hb0) hs
theorem r_aastore {a b ai ci : Nat} {C E : String} {T : u_T} {N : Nat} {i : Int32} {vs fs : List Value} (j : Nat) (hd : decode M.2.1 pc = .ok (.aastore, 1)) (hat : g_AT[ai]? = some (.object E)) (hc : g_CL[ci]? = some (C, T, N)) (hcast : Cond.castable C E ∈ lw_tbl) (hb0 : k_b K ≤ a) (ho : h a = some (g_ar ai vs)) (hob : h b = some (g_ob ci fs)) (hi : i = nI j) (h31 : j < 2147483648) (hj : j < vs.length) (k : g_G K M d bc bs P X (pc + 1) L st (g_up h a (g_ar ai (vs.set j (.ref b)))) n) : g_G K M d bc bs P X pc L (.ref b :: .int i :: .ref a :: st) h n := by
  subst hi
  intro p e R s m args below meth c H locs cells slots ls hM g1 g2 g3 g4 hR hl hs
  obtain ⟨v, hj'⟩ : ∃ v, vs[j]? = some v := ⟨_, List.getElem?_eq_getElem hj⟩
  have hKN := hM.2.2.2.2.2.2.2.2.1
  obtain ⟨r, w1, -, cellV, w2, w3, w4, -⟩ := hR.2.2.1 b _ hob
  have hr : r = (C, T, N) := Option.some.inj (w1.symm.trans hc)
  subst hr
  obtain ⟨-, hfc, kC, hkC, -⟩ := hKN.1 ci _ hc
  obtain ⟨kA, comp, k1, k2, k3, -⟩ := (hKN.2.1 ai _ hat).2
  obtain ⟨c0, t1, f1, f2, f3⟩ := Cond.castable_spec (hKN.word hcast rfl args)
  have e5 : comp = t1 := Option.some.inj (k3.symm.trans f2)
  have e6 : c0 = (k_D K).1 ci := Option.some.inj (f1.symm.trans hfc)
  obtain ⟨kE, hkE, -⟩ := Vm.findClass_spec k3
  have hin := g_inB (cA := k_A K ai) hj' h31
  refine W.aast hM.1 hM.2.1 (hR.2.2.1 a _ ho) (fun q h => by cases h) (fun h => by cases h) k1 k2 rfl hkE ⟨fun q => hin (Or.inl q), Nat.not_le.mp fun q => hin (Or.inr q)⟩ w2 (fun q h => by rw [w4] at h; cases h) (by rw [w3]; exact hkC) (by rw [w3, e5, ← e6]; exact f3) rfl rfl hd fun H' e1 e2 e3 => ?_
  rw [nI_clamp (by simpa using h31), g_setA] at e1
  exact k p e R s m args below meth c H' _ cells slots ls hM g1 g2 g3 g4 (hR.put hb0 e2 e1 e3) (fun z hz => by
    rcases List.mem_append.mp hz with q | q
    · exact hl z q
    · rw [List.mem_singleton.mp q]; exact hb0) hs
theorem r_aastoreZ {a ai : Nat} {E : String} {i : Int32} {vs : List Value} (j : Nat) (hd : decode M.2.1 pc = .ok (.aastore, 1)) (hat : g_AT[ai]? = some (.object E)) (hb0 : k_b K ≤ a) (ho : h a = some (g_ar ai vs)) (hi : i = nI j) (h31 : j < 2147483648) (hj : j < vs.length) (k : g_G K M d bc bs P X (pc + 1) L st (g_up h a (g_ar ai (vs.set j .null))) n) : g_G K M d bc bs P X pc L (.null :: .int i :: .ref a :: st) h n := by
  subst hi
  intro p e R s m args below meth c H locs cells slots ls hM g1 g2 g3 g4 hR hl hs
  obtain ⟨v, hj'⟩ : ∃ v, vs[j]? = some v := ⟨_, List.getElem?_eq_getElem hj⟩
  refine va_WaastN hM.1 hM.2.1 (hR.2.2.1 a _ ho) (g_isArr hM.2.2.2.2.2.2.2.2.1 hat vs) (fun h => by cases h) (g_inB hj' h31) rfl rfl hd fun H' e1 e2 e3 => ?_
  rw [nI_clamp (by simpa using h31), g_setA] at e1
  exact k p e R s m args below meth c H' _ cells slots ls hM g1 g2 g3 g4 (hR.put hb0 e2 e1 e3) (fun z hz => by
    rcases List.mem_append.mp hz with q | q
    · exact hl z q
    · rw [List.mem_singleton.mp q]; exact hb0) hs
theorem r_arraylength {a ai : Nat} {ty : FieldType} {vs : List Value} {z : Int32} (hd : decode M.2.1 pc = .ok (.arraylength, 1)) (hat : g_AT[ai]? = some ty) (ho : h a = some (g_ar ai vs)) (hz : nI vs.length = z) (k : g_G K M d bc bs P X (pc + 1) L (.int z :: st) h n) : g_G K M d bc bs P X pc L (.ref a :: st) h n := by
  refine g_go (fun p e R s m args below meth c H locs cells slots ls Q hM hR hl k => ?_) k
  exact W.alen hM.1 hM.2.1 (hR.2.2.1 a _ ho) (g_isArr hM.2.2.2.2.2.2.2.2.1 hat vs) (by rw [← hz]; simp [g_cell, nI, Nat.toInt32]) rfl rfl hd (k ls hl)
theorem g_cell_rep (cA : ClassId) (N : Nat) (v : Value) : g_cell cA (List.replicate N v) = arrV cA N (fun _ => v) := by
  rw [← arrV_new]
  simp [g_cell]
theorem r_newarray {atype : ArrayType} {ai : Nat} {ty : FieldType} {z : Int32} (N : Nat) (hd : decode M.2.1 pc = .ok (.newarray atype, 2)) (hty : newarray.typeOf atype = ty) (hat : g_AT[ai]? = some ty) (harr : Cond.arrayClass ty ∈ lw_all) (hz : z = nI N) (hN : N < 2147483648) (hby : N * componentBytes ty ≤ 536870912) (h1 : 1 ≤ bc) (h2 : N ≤ bs)
    (k : g_G K M d (bc - 1) (bs - N) P X (pc + 2) L (.ref n :: st) (g_up h n (g_ar ai (List.replicate N (defaultValue ty)))) (n + 1)) : g_G K M d bc bs P X pc L (.int z :: st) h n := by
  subst hz
  subst hty
  intro p e R s m args below meth c H locs cells slots ls hM g1 g2 g3 g4 hR hl hs
  have hKN := hM.2.2.2.2.2.2.2.2.1
  refine va_newaK hM.1 hM.2.1 (g_all hKN args _ harr) rfl hd rfl (nI_pos (by simpa using hN)) (nI_clamp (by simpa using hN)) hby (by omega) (by omega) hR.1 fun H1 cA e1 z1 o1 hAr hNm => ?_
  have hcA : cA = k_A K ai := by
    have h9 := (hKN.2.1 ai _ hat).2
    cases atype <;> exact Option.some.inj (hNm.symm.trans h9)
  subst hcA
  exact k p e R s m args below meth c H1 _ (cells + 1) (slots + N) ls hM g1 g2 (by omega) (by omega) (hR.new z1 (show H1[n]? = some (g_cell _ _) by rw [g_cell_rep]; exact e1) o1) hl hs
theorem r_anewarray {ai index : Nat} {C : String} {z : Int32} (N : Nat) (hd : decode M.2.1 pc = .ok (.anewarray index, 3)) (hat : g_AT[ai]? = some (.object C)) (hcl : Cond.classLink M.1.cls index C ∈ lw_all) (hov : Cond.arrayOver (.object C) ∈ lw_tbl) (hz : z = nI N) (hN : N < 2147483648) (hby : N * 4 ≤ 536870912) (h1 : 1 ≤ bc) (h2 : N ≤ bs)
    (k : g_G K M d (bc - 1) (bs - N) P X (pc + 3) L (.ref n :: st) (g_up h n (g_ar ai (List.replicate N .null))) (n + 1)) : g_G K M d bc bs P X pc L (.int z :: st) h n := by
  subst hz
  intro p e R s m args below meth c H locs cells slots ls hM g1 g2 g3 g4 hR hl hs
  have hKN := hM.2.2.2.2.2.2.2.2.1
  have hcz : (nI N).toNatClampNeg = N := nI_clamp (by simpa using hN)
  refine W.anew hM.1 hM.2.1 hM.2.2.2.2.1 (g_all hKN args _ hcl) (hKN.word hov rfl args) rfl hd rfl (nI_pos (by simpa using hN)) (by rw [hcz]; exact hby) (by omega) (by rw [hcz]; omega) fun cA kA comp f1 f2 f3 f4 => ?_
  rw [hcz]
  have hcA : cA = k_A K ai := by
    obtain ⟨kA', comp', -, -, -, h9⟩ := (hKN.2.1 ai _ hat).2
    exact Option.some.inj (f1.symm.trans h9)
  subst hcA
  generalize hH1 : H.push ({ cls := k_A K ai, slots := Array.replicate N .null, vm := .none } : Cell) = H1
  have z1 : H1.size = n + 1 := by rw [← hH1, Array.size_push, hR.1]
  have e1 : H1[n]? = some (g_cell (k_A K ai) (List.replicate N .null)) := by rw [← hH1, ← hR.1, Array.getElem?_push_size]; simp [g_cell]
  have o1 : ∀ q : Nat, q < n → H1[q]? = H[q]? := fun q hq => by rw [← hH1, Array.getElem?_push, if_neg (by rw [hR.1]; exact Nat.ne_of_lt hq)]
  have hn : H.size = n := hR.1
  rw [hn]
  exact k p e R s m args below meth c H1 _ (cells + 1) (slots + N) ls hM g1 g2 (by omega) (by omega) (hR.new z1 e1 o1) hl hs
-- casts
theorem r_checkcast {C nm : String} {T : u_T} {N ci index : Nat} {fs : List Value} {a : Nat} (hd : decode M.2.1 pc = .ok (.checkcast index, 3)) (hc : g_CL[ci]? = some (C, T, N)) (hlink : Cond.classLink M.1.cls index nm ∈ lw_all) (hcast : C = nm ∨ Cond.castable C nm ∈ lw_tbl) (ho : h a = some (g_ob ci fs)) (k : g_G K M d bc bs P X (pc + 3) L (.ref a :: st) h n) : g_G K M d bc bs P X pc L (.ref a :: st) h n := by
  refine g_go (fun p e R s m args below meth c H locs cells slots ls Q hM hR hl k => ?_) k
  obtain ⟨hx, hb, -, -, hown, -, -, -, hKN, -⟩ := hM
  obtain ⟨r, w1, -, cell, w2, w3, w4, -⟩ := hR.2.2.1 a _ ho
  have hr : r = (C, T, N) := Option.some.inj (w1.symm.trans hc)
  subst hr
  have hat := (hKN.1 ci _ hc).2
  have hrc : ∃ cell : Cell, H[a]? = some cell ∧ cell.vm.isStatics = false ∧ s.vm.findClass C = some cell.cls := ⟨cell, w2, by rw [w4]; rfl, by rw [w3]; exact hat.1⟩
  rcases hcast with e9 | hcast
  · subst e9
    exact va_castS hx hb hown (g_all hKN args _ hlink) hat hrc hd (k ls hl)
  · exact va_castY hx hb hown (g_all hKN args _ hlink) (hKN.word hcast rfl #[]) hrc hd (k ls hl)
theorem r_checkcastZ {index : Nat} (hd : decode M.2.1 pc = .ok (.checkcast index, 3)) (k : g_G K M d bc bs P X (pc + 3) L (.null :: st) h n) : g_G K M d bc bs P X pc L (.null :: st) h n :=
  g_go (fun p e R s m args below meth c H locs cells slots ls Q hM hR hl k => lv_castN hM.1 hM.2.1 hd (k ls hl)) k
theorem r_instY {C nm : String} {T : u_T} {N ci index : Nat} {fs : List Value} {a : Nat} (hd : decode M.2.1 pc = .ok (.instanceof index, 3)) (hc : g_CL[ci]? = some (C, T, N)) (hlink : Cond.classLink M.1.cls index nm ∈ lw_all) (hcast : C = nm ∨ Cond.castable C nm ∈ lw_tbl) (ho : h a = some (g_ob ci fs)) (k : g_G K M d bc bs P X (pc + 3) L (.int 1 :: st) h n) : g_G K M d bc bs P X pc L (.ref a :: st) h n := by
  refine g_go (fun p e R s m args below meth c H locs cells slots ls Q hM hR hl k => ?_) k
  obtain ⟨hx, hb, -, -, hown, -, -, -, hKN, -⟩ := hM
  obtain ⟨r, w1, -, cell, w2, w3, w4, -⟩ := hR.2.2.1 a _ ho
  have hr : r = (C, T, N) := Option.some.inj (w1.symm.trans hc)
  subst hr
  have hat := (hKN.1 ci _ hc).2
  have hrc : ∃ cell : Cell, H[a]? = some cell ∧ cell.vm.isStatics = false ∧ s.vm.findClass C = some cell.cls := ⟨cell, w2, by rw [w4]; rfl, by rw [w3]; exact hat.1⟩
  rcases hcast with e9 | hcast
  · subst e9
    exact va_instS hx hb hown (g_all hKN args _ hlink) hat hrc hd (k ls hl)
  · exact va_instY hx hb hown (g_all hKN args _ hlink) (hKN.word hcast rfl #[]) hrc hd (k ls hl)
theorem r_instNo {C nm : String} {T : u_T} {N ci index : Nat} {fs : List Value} {a : Nat} (hd : decode M.2.1 pc = .ok (.instanceof index, 3)) (hc : g_CL[ci]? = some (C, T, N)) (hlink : Cond.classLink M.1.cls index nm ∈ lw_all) (hnc : (C, nm) ∈ k_n K) (ho : h a = some (g_ob ci fs)) (k : g_G K M d bc bs P X (pc + 3) L (.int 0 :: st) h n) : g_G K M d bc bs P X pc L (.ref a :: st) h n := by
  refine g_go (fun p e R s m args below meth c H locs cells slots ls Q hM hR hl k => ?_) k
  obtain ⟨hx, hb, -, -, hown, -, -, -, hKN, -⟩ := hM
  obtain ⟨r, w1, -, cell, w2, w3, w4, -⟩ := hR.2.2.1 a _ ho
  have hr : r = (C, T, N) := Option.some.inj (w1.symm.trans hc)
  subst hr
  have hat := (hKN.1 ci _ hc).2
  exact va_instNo hx hb hown (g_all hKN args _ hlink) (hKN.2.2.2.2.2.1 _ hnc) ⟨cell, w2, by rw [w4]; rfl, by rw [w3]; exact hat.1⟩ hd (k ls hl)
theorem r_instZ {index : Nat} (hd : decode M.2.1 pc = .ok (.instanceof index, 3)) (k : g_G K M d bc bs P X (pc + 3) L (.int 0 :: st) h n) : g_G K M d bc bs P X pc L (.null :: st) h n :=
  g_go (fun p e R s m args below meth c H locs cells slots ls Q hM hR hl k => lv_instN hM.1 hM.2.1 hd (k ls hl)) k
-- constants
theorem r_getstatic {C nm ds ref : String} {v : Value} {index : Nat} (hd : decode M.2.1 pc = .ok (.getstatic index, 3)) (hz : (C, nm, ds, v) ∈ k_s K) (hlink : Cond.fieldLink M.1.cls index ref nm ds ∈ lw_all) (hsame : ref = C ∨ Cond.sameField ref C nm ds ∈ lw_all) (k : g_G K M d bc bs P X (pc + 3) L (v :: st) h n) : g_G K M d bc bs P X pc L st h n := by
  refine g_go (fun p e R s m args below meth c H locs cells slots ls Q hM hR hl k => ?_) k
  obtain ⟨hx, hb, -, -, hown, -, -, -, hKN, -⟩ := hM
  obtain ⟨cf, kf, fi, f, a, cell, h1, h2, h3, h4, h5, h6, h7, h8⟩ := hKN.2.2.2.1 _ hz
  have hts := g_all hKN args
  exact W.gets hx hb hown (hts _ hlink) (g_same hts hsame h1) h2 h3 h4 (by rw [hR.2.2.2.1 a (Nat.not_le.mp h8)]; exact h5) (fun e => by rw [e] at h6; cases h6) h7 rfl hd (k ls hl)
theorem r_ldcS {tx : String} {index q : Nat} (hd : decode M.2.1 pc = .ok (.ldc index, 2)) (hz : (M.1.cls, index, tx, q) ∈ k_t K) (k : g_G K M d bc bs P X (pc + 2) L (.ref q :: st) h n) : g_G K M d bc bs P X pc L st h n :=
  g_go (fun p e R s m args below meth c H locs cells slots ls Q hM hR hl k => va_ldcS hM.1 hM.2.1 hM.2.2.2.2.1 (hM.2.2.2.2.2.2.2.2.1.2.2.2.2.1 _ hz) hd (k ls hl)) k
theorem r_ldc {index : Nat} {v : Int32} (hd : decode M.2.1 pc = .ok (.ldc index, 2)) (hc : Cond.constant M.1.cls index v ∈ lw_all) (k : g_G K M d bc bs P X (pc + 2) L (.int v :: st) h n) : g_G K M d bc bs P X pc L st h n :=
  g_go (fun p e R s m args below meth c H locs cells slots ls Q hM hR hl k => lv_ldc hM.1 hM.2.1 hM.2.2.2.2.1 (g_all hM.2.2.2.2.2.2.2.2.1 args _ hc) hd (k ls hl)) k
theorem r_ldc2 {index : Nat} {v : Int64} (hd : decode M.2.1 pc = .ok (.ldc2_w index, 3)) (hc : Cond.constantLong M.1.cls index v ∈ lw_all) (k : g_G K M d bc bs P X (pc + 3) L (.long v :: st) h n) : g_G K M d bc bs P X pc L st h n :=
  g_go (fun p e R s m args below meth c H locs cells slots ls Q hM hR hl k => lv_ldc2 hM.1 hM.2.1 hM.2.2.2.2.1 (g_all hM.2.2.2.2.2.2.2.2.1 args _ hc) hd (k ls hl)) k
theorem r_objInit {index : Nat} {a : Nat} (hd : decode M.2.1 pc = .ok (.invokespecial index, 3)) (hlink : Cond.methodLink M.1.cls index Lib.objectInit ∈ lw_all) (hi : Cond.instanceMethod Lib.objectInit ∈ lw_all) (hco : Cond.code Lib.objectInit ⟨#[0xb1]⟩ 1 none ∈ lw_all) (hL : L.length = M.2.2.1) (hd1 : 1 ≤ d) (hw : (st.map fun v => v.category).sum ≤ 8) (k : g_G K M d bc bs P X (pc + 3) L st h n) : g_G K M d bc bs P X pc L (.ref a :: st) h n := by
  intro p e R s m args below meth c H locs cells slots ls hM g1 g2 g3 g4 hR hl hs
  obtain ⟨hx, hb, hml, -, hown, -, -, -, hKN, -⟩ := id hM
  have hts := g_all hKN args
  exact W.objInit hx hb hown (hts _ hlink) (hts _ hi) (hts _ hco) rfl (by show ls.size = _; rw [hml, hs.1, hL]) rfl hd (by omega) (by show 2 * 0 + _ + 12 ≤ _; omega) (k p e R s m args below meth c H locs cells slots ls hM g1 g2 g3 g4 hR hl hs)
end
