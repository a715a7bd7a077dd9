/-! the classes whose objects the pure heap holds, by their places; the kinds of arrays -/
def g_T0 : u_T := fun _ => ("", "", "", false)
def g_CL : List vw_C := [(RX1, TX1, 8), (RX2, TX2, 11), (RX3, TX3, 23), (RX5, TX5, 7), (RX6, TX6, 2), (RX7, TX7, 2), (RX8, TX8, 3), (RX9, TX9, 3), (RX10, TX10, 2), (RX11, TX11, 2), (RX12, TX12, 2), (RX13, g_T0, 0), (RX14, TX14, 2), (RX15, TX15, 2), (RX16, TX16, 7), (RX17, TX17, 1), (RX18, TX18, 7), (RJ1, TJ1, 9), (RJ4, TJ4, 3), (RJ6, TJ6, 4), (RJ8, TJ8, 4), (RJ9, TJ9, 4), (RJ11, TJ11, 5), (RJ14, TJ14, 1), (RJ21, TJ21, 6), (RJ24, TJ24, 1), (RJ26, TJ26, 4), (RJ28, TJ28, 6), (RJ30, TJ30, 6), (RJ31, TJ31, 6), (RJ32, TJ32, 3), (RJ33, TJ33, 4), (RJ35, TJ35, 5), (RJ36, TJ36, 5), (RJ37, TJ37, 3), (RJ38, TJ38, 6), (RJ39, TJ39, 6), (RJ40, TJ40, 6), (RJ41, TJ41, 1), (RJ43, TJ43, 4), (RJ44, TJ44, 4), (RJ45, TJ45, 6), (RJ46, TJ46, 6), (RJ47, g_T0, 0)]
theorem gc_X1 : g_CL[0]? = some (RX1, TX1, 8) := rfl
theorem gc_X2 : g_CL[1]? = some (RX2, TX2, 11) := rfl
theorem gc_X3 : g_CL[2]? = some (RX3, TX3, 23) := rfl
theorem gc_X5 : g_CL[3]? = some (RX5, TX5, 7) := rfl
theorem gc_X6 : g_CL[4]? = some (RX6, TX6, 2) := rfl
theorem gc_X7 : g_CL[5]? = some (RX7, TX7, 2) := rfl
theorem gc_X8 : g_CL[6]? = some (RX8, TX8, 3) := rfl
theorem gc_X9 : g_CL[7]? = some (RX9, TX9, 3) := rfl
theorem gc_X10 : g_CL[8]? = some (RX10, TX10, 2) := rfl
theorem gc_X11 : g_CL[9]? = some (RX11, TX11, 2) := rfl
theorem gc_X12 : g_CL[10]? = some (RX12, TX12, 2) := rfl
theorem gc_X13 : g_CL[11]? = some (RX13, g_T0, 0) := rfl
theorem gc_X14 : g_CL[12]? = some (RX14, TX14, 2) := rfl
theorem gc_X15 : g_CL[13]? = some (RX15, TX15, 2) := rfl
theorem gc_X16 : g_CL[14]? = some (RX16, TX16, 7) := rfl
theorem gc_X17 : g_CL[15]? = some (RX17, TX17, 1) := rfl
theorem gc_X18 : g_CL[16]? = some (RX18, TX18, 7) := rfl
theorem gc_J1 : g_CL[17]? = some (RJ1, TJ1, 9) := rfl
theorem gc_J4 : g_CL[18]? = some (RJ4, TJ4, 3) := rfl
theorem gc_J6 : g_CL[19]? = some (RJ6, TJ6, 4) := rfl
theorem gc_J8 : g_CL[20]? = some (RJ8, TJ8, 4) := rfl
theorem gc_J9 : g_CL[21]? = some (RJ9, TJ9, 4) := rfl
theorem gc_J11 : g_CL[22]? = some (RJ11, TJ11, 5) := rfl
theorem gc_J14 : g_CL[23]? = some (RJ14, TJ14, 1) := rfl
theorem gc_J21 : g_CL[24]? = some (RJ21, TJ21, 6) := rfl
theorem gc_J24 : g_CL[25]? = some (RJ24, TJ24, 1) := rfl
theorem gc_J26 : g_CL[26]? = some (RJ26, TJ26, 4) := rfl
theorem gc_J28 : g_CL[27]? = some (RJ28, TJ28, 6) := rfl
theorem gc_J30 : g_CL[28]? = some (RJ30, TJ30, 6) := rfl
theorem gc_J31 : g_CL[29]? = some (RJ31, TJ31, 6) := rfl
theorem gc_J32 : g_CL[30]? = some (RJ32, TJ32, 3) := rfl
theorem gc_J33 : g_CL[31]? = some (RJ33, TJ33, 4) := rfl
theorem gc_J35 : g_CL[32]? = some (RJ35, TJ35, 5) := rfl
theorem gc_J36 : g_CL[33]? = some (RJ36, TJ36, 5) := rfl
theorem gc_J37 : g_CL[34]? = some (RJ37, TJ37, 3) := rfl
theorem gc_J38 : g_CL[35]? = some (RJ38, TJ38, 6) := rfl
theorem gc_J39 : g_CL[36]? = some (RJ39, TJ39, 6) := rfl
theorem gc_J40 : g_CL[37]? = some (RJ40, TJ40, 6) := rfl
theorem gc_J41 : g_CL[38]? = some (RJ41, TJ41, 1) := rfl
theorem gc_J43 : g_CL[39]? = some (RJ43, TJ43, 4) := rfl
theorem gc_J44 : g_CL[40]? = some (RJ44, TJ44, 4) := rfl
theorem gc_J45 : g_CL[41]? = some (RJ45, TJ45, 6) := rfl
theorem gc_J46 : g_CL[42]? = some (RJ46, TJ46, 6) := rfl
theorem gc_J47 : g_CL[43]? = some (RJ47, g_T0, 0) := rfl
def g_AT : List FieldType := [.int, .long, .double, .char, .byte, .object "java/lang/Object", .object "java/lang/Integer"]
theorem ga_I : g_AT[0]? = some (.int) := rfl
theorem ga_J : g_AT[1]? = some (.long) := rfl
theorem ga_D : g_AT[2]? = some (.double) := rfl
theorem ga_C : g_AT[3]? = some (.char) := rfl
theorem ga_B : g_AT[4]? = some (.byte) := rfl
theorem ga_O : g_AT[5]? = some (.object "java/lang/Object") := rfl
theorem ga_N : g_AT[6]? = some (.object "java/lang/Integer") := rfl
/-! THE FRAME. A pure heap (a function from addresses to cells), a method's contract over it (g_Met), and the judgement of a walk (g_G, g_GX): everything of the machine stands behind them. -/
set_option maxRecDepth 100000
abbrev g_C : Type := (Nat × List Value) ⊕ (Nat × List Value) ⊕ (Nat × List Value)
abbrev g_P : Type := Nat → Option g_C
/-- an array (its kind by g_AT's place), an object (its class by g_CL's place), an object that a lambda's site makes (by its site's number) -/
abbrev g_ar (k : Nat) (vs : List Value) : g_C := .inl (k, vs)
abbrev g_ob (k : Nat) (vs : List Value) : g_C := .inr (.inl (k, vs))
abbrev g_la (k : Nat) (vs : List Value) : g_C := .inr (.inr (k, vs))
def g_up (h : g_P) (a : Nat) (c : g_C) : g_P := fun q => if q = a then some c else h q
theorem g_us {h : g_P} {a : Nat} {c : g_C} : g_up h a c a = some c := by simp [g_up]
theorem g_un {h : g_P} {a b : Nat} {c : g_C} (n : b ≠ a) : g_up h a c b = h b := by simp [g_up, n]
/-- a lambda's site: its method, pc, index, shape; the made class; the one object where nothing is captured -/
abbrev g_LI : Type := MethodName × Nat × Nat × Lambda.Shape × ClassId × Option Addr
abbrev g_K : Type := Launch × va_G × (Nat → ClassId) × (Nat → ClassId) × Nat × Heap × g_P × List (String × String × String × Value) × List (String × Nat × String × Nat) × List (String × String) × List g_LI
def k_l (K : g_K) : Launch := K.1
def k_D (K : g_K) : va_G := K.2.1
def k_A (K : g_K) : Nat → ClassId := K.2.2.1
def k_L (K : g_K) : Nat → ClassId := K.2.2.2.1
def k_b (K : g_K) : Nat := K.2.2.2.2.1
def k_H (K : g_K) : Heap := K.2.2.2.2.2.1
def k_p (K : g_K) : g_P := K.2.2.2.2.2.2.1
def k_s (K : g_K) : List (String × String × String × Value) := K.2.2.2.2.2.2.2.1
def k_t (K : g_K) : List (String × Nat × String × Nat) := K.2.2.2.2.2.2.2.2.1
def k_n (K : g_K) : List (String × String) := K.2.2.2.2.2.2.2.2.2.1
def k_f (K : g_K) : List g_LI := K.2.2.2.2.2.2.2.2.2.2
def g_cell (cA : ClassId) (vs : List Value) : Cell := { cls := cA, slots := vs.toArray, vm := .none }
theorem g_cell_arrV (cA : ClassId) (vs : List Value) : g_cell cA vs = arrV cA vs.length (fun j => vs.getD j .null) := by
  unfold g_cell arrV
  congr 1
  apply Array.ext_getElem?
  intro i
  by_cases hi : i < vs.length
  · simp [hi, List.getD_eq_getElem?_getD]
  · simp [hi]
def g_at (K : g_K) (a : Nat) (c : g_C) (H : Heap) : Prop := match c with
  | .inl q => H[a]? = some (g_cell (k_A K q.1) q.2)
  | .inr (.inl q) => ∃ r : vw_C, g_CL[q.1]? = some r ∧ (q.2.length = r.2.2 ∧ (k_b K ≤ a → ∀ cell : Cell, H[a]? = some cell → cell.monitor.owner = none ∧ cell.monitor.count = 0)) ∧ t_OB a ((k_D K).1 q.1) r.2.2 ((k_D K).2 q.1) H (vp_V q.2)
  | .inr (.inr q) => H[a]? = some (g_cell (k_L K q.1) q.2)
theorem g_at.kept {K : g_K} {a : Nat} {c : g_C} {H H1 : Heap} (h : g_at K a c H) (hq : H1[a]? = H[a]?) : g_at K a c H1 := by
  rcases c with q | q | q
  · exact hq.trans h
  · obtain ⟨r, h1, h2, h3⟩ := h
    exact ⟨r, h1, ⟨h2.1, fun b cell e => h2.2 b cell (hq ▸ e)⟩, h3.kept hq⟩
  · exact hq.trans h
theorem g_at.lt {K : g_K} {a : Nat} {c : g_C} {H : Heap} (h : g_at K a c H) : a < H.size := by
  rcases c with q | q | q
  · exact (Array.getElem?_eq_some_iff.mp (show H[a]? = some _ from h)).1
  · obtain ⟨r, h1, h2, cell, h3, -⟩ := h
    exact (Array.getElem?_eq_some_iff.mp h3).1
  · exact (Array.getElem?_eq_some_iff.mp (show H[a]? = some _ from h)).1
theorem g_at.cell {K : g_K} {a : Nat} {c : g_C} {H : Heap} (h : g_at K a c H) : ∃ cell : Cell, H[a]? = some cell ∧ cell.vm = .none := by
  rcases c with q | q | q
  · exact ⟨_, h, rfl⟩
  · obtain ⟨r, h1, h2, cell, h3, h4, h5, -⟩ := h
    exact ⟨cell, h3, h5⟩
  · exact ⟨_, h, rfl⟩
/-- the heap H is the pure heap h: its size n, what was there before the run's base untouched -/
def g_RH (K : g_K) (H : Heap) (h : g_P) (n : Nat) : Prop := H.size = n ∧ k_b K ≤ n ∧ (∀ (a : Nat) (c : g_C), h a = some c → g_at K a c H) ∧ (∀ q : Nat, q < k_b K → H[q]? = (k_H K)[q]?) ∧ (∀ q : Nat, q < k_b K → h q = k_p K q)
theorem g_RH.lt {K : g_K} {H : Heap} {h : g_P} {n : Nat} (r : g_RH K H h n) {a : Nat} {c : g_C} (e : h a = some c) : a < n := by
  have := (r.2.2.1 a c e).lt
  rw [r.1] at this
  exact this
theorem g_RH.put {K : g_K} {H H1 : Heap} {h : g_P} {n a : Nat} {c : g_C} (r : g_RH K H h n) (hb : k_b K ≤ a) (hz : H1.size = H.size) (hc : g_at K a c H1) (ho : ∀ q : Nat, q ≠ a → H1[q]? = H[q]?) : g_RH K H1 (g_up h a c) n := by
  obtain ⟨r1, r2, r3, r4, r5⟩ := r
  refine ⟨hz.trans r1, r2, fun b x e => ?_, fun q hq => ?_, fun q hq => ?_⟩
  · by_cases hba : b = a
    · subst hba
      rw [g_us] at e
      cases e
      exact hc
    · rw [g_un hba] at e
      exact (r3 b x e).kept (ho b hba)
  · rw [ho q (by omega)]
    exact r4 q hq
  · rw [g_un (by omega)]
    exact r5 q hq
theorem g_RH.new {K : g_K} {H H1 : Heap} {h : g_P} {n : Nat} {c : g_C} (r : g_RH K H h n) (hz : H1.size = n + 1) (hc : g_at K n c H1) (ho : ∀ q : Nat, q < n → H1[q]? = H[q]?) : g_RH K H1 (g_up h n c) (n + 1) := by
  have hl := fun (a : Nat) (c : g_C) (e : h a = some c) => r.lt e
  obtain ⟨r1, r2, r3, r4, r5⟩ := r
  refine ⟨hz, by omega, fun b x e => ?_, fun q hq => ?_, fun q hq => ?_⟩
  · by_cases hba : b = n
    · subst hba
      rw [g_us] at e
      cases e
      exact hc
    · rw [g_un hba] at e
      exact (r3 b x e).kept (ho b (hl b x e))
  · rw [ho q (by omega)]
    exact r4 q hq
  · rw [g_un (by omega)]
    exact r5 q hq
-- what is known of the tables, and stays known
theorem if_warm {a J n d : String} {s U : State} (hW : s.WarmedH U.vm) {args : Array Value} (h : (Cond.interfaceMethod a J n d).before args s = true) : (Cond.interfaceMethod a J n d).before args U = true := by
  obtain ⟨c, k, m, h1, h2, h3, h4, h5⟩ := Cond.interfaceMethod_spec h
  have hA := hW.alike
  obtain ⟨k', hk', he⟩ := hA.2.2 _ _ h2
  have h1' : U.vm.findClass a = some c := by rw [hA.findClass]; exact h1
  have hi' : k'.isInterface = true := by rw [he]; exact h3
  have h4' : U.methodFound? a n d = some m := by
    simp only [State.methodFound?, h1, h2, Option.bind_eq_bind, Option.bind_some] at h4
    simp only [State.methodFound?, h1', hk', Option.bind_eq_bind, Option.bind_some]
    rw [h3] at h4
    rw [Lambda.methodIn_ask_alike hA, hi']
    exact h4
  have h5' : U.methodNamed? ⟨J, n, d⟩ = some m := by
    have := State.methodNamed?_setVm (s := s) hA ⟨J, n, d⟩
    rw [h5] at this
    exact this
  simp [Cond.before, Cond.holds, Cond.value, h1', hk', hi', h4', h5']
def g_wd (w : Cond) : Bool := match w with
  | .arrayClass _ => true
  | .arrayOver (.object _) => true
  | .fieldLinkNest .. => true
  | .methodLinkNest .. => true
  | .interfaceMethod .. => true
  | w => w.onTables && w.keepsFace
theorem g_wd_warm {w : Cond} (hw : g_wd w = true) {s U : State} (hW : s.WarmedH U.vm) (h : ∀ args : Array Value, w.before args s = true) : ∀ args : Array Value, w.before args U = true := by
  have face : w.onTables = true → w.keepsFace = true → ∀ args : Array Value, w.before args U = true := by
    intro h1 h2 args
    have h3 := Cond.before_shiftedFace (State.Shifted.of_warmed hW) w h2 (h args)
    exact va_tabs h1 (rfl : (s.setVm U.vm).vm = U.vm) h3
  intro args
  cases w <;> first
    | exact word_at hW (Or.inr ⟨_, rfl⟩) (h args)
    | exact if_warm hW (h args)
    | exact va_tabs rfl (rfl : (s.setVm U.vm).vm = U.vm) (Cond.fieldLinkNest_warmed (args := args) hW (h args))
    | exact va_tabs rfl (rfl : (s.setVm U.vm).vm = U.vm) (Cond.methodLinkNest_warmed (args := args) hW (h args))
    | (simp only [g_wd, Bool.and_eq_true] at hw; exact face hw.1 hw.2 args)
    | (rename_i ty; cases ty <;> first | exact va_AO.use (va_AO.moved hW.alike (va_AO.of (h args))) | (simp [g_wd, Cond.onTables] at hw))
    | (simp [g_wd, Cond.onTables] at hw)
/-- of a lambda's site, what the tables alone say -/
def g_LA (z : g_LI) (s : State) : Prop := ∃ (m : MethodId) (k : Class) (cf : ClassFile) (i0 p0 : Nat) (l : Linked), s.methodNamed? z.1 = some m ∧ s.vm.classes[m.cls]? = some k ∧ k.cf = some cf ∧ Lambda.shapeOf? cf z.2.2.1 = some z.2.2.2.1 ∧ (k.callSites.find? fun y => y.1 == m.idx && y.2.1 == z.2.1) = some (i0, p0, l) ∧
  Lambda.isMade { classPath := fun _ => none } s.vm m.cls z.2.2.2.1 z.2.2.2.2.1 = true ∧ s.lambdaCallable z.2.2.2.1 z.2.2.2.2.1 = true ∧ ((∃ a, l = .constant a ∧ z.2.2.2.2.2 = some a) ∨ (l = .makes z.2.2.2.2.1 ∧ z.2.2.2.2.2 = none))
theorem g_LA.warm {z : g_LI} {s U : State} (hW : s.WarmedH U.vm) (h : g_LA z s) : g_LA z U := by
  obtain ⟨m, k, cf, i0, p0, l, h1, h2, h3, h4, h5, h6, h7, h8⟩ := h
  obtain ⟨k', hk', he⟩ := hW.alike.2.2 _ _ h2
  have hm' : U.methodNamed? z.1 = some m := by
    have := State.methodNamed?_setVm (s := s) hW.alike z.1
    rw [h1] at this
    exact this
  have hcall' : U.lambdaCallable z.2.2.2.1 z.2.2.2.2.1 = true := by
    have hA := hW.alike
    simp only [State.lambdaCallable, hA.findClass, hA.assignable, hA.superclasses, hA.declaredIn] at h7 ⊢
    exact h7
  exact ⟨m, k', cf, i0, p0, l, hm', hk', by rw [he]; exact h3, h4, by rw [he]; exact h5, Lambda.isMade_warmer hW h6, hcall', h8⟩
/-- the linking words that the premises give, not the tables -/
def lw_nar : List Cond := [.methodLink "java/util/TreeSet" 69 ⟨"java/util/NavigableMap", "put", "(Ljava/lang/Object;Ljava/lang/Object;)Ljava/lang/Object;"⟩, .interfaceMethod "java/util/NavigableMap" "java/util/Map" "put" "(Ljava/lang/Object;Ljava/lang/Object;)Ljava/lang/Object;"]
def g_KN (K : g_K) (s : State) : Prop :=
  (∀ (c : Nat) (q : vw_C), g_CL[c]? = some q → u_Kn s q.1 q.2.1 q.2.2 ((k_D K).1 c) ((k_D K).2 c)) ∧
  (∀ (k : Nat) (ty : FieldType), g_AT[k]? = some ty → ArrOfT s (k_A K k) ty ∧ va_RA s (k_A K k) ty) ∧
  (∀ w : Cond, w ∈ lw_tbl ∨ w ∈ lw_nar → g_wd w = true → ∀ args : Array Value, w.before args s = true) ∧
  (∀ z ∈ k_s K, va_Z z.1 z.2.1 z.2.2.1 z.2.2.2 (fun q => k_b K ≤ q) s (k_H K)) ∧
  (∀ z ∈ k_t K, vk_R z.1 z.2.1 z.2.2.1 z.2.2.2 s) ∧
  (∀ z ∈ k_n K, va_Nc z.1 z.2 s) ∧
  (∀ z ∈ k_f K, g_LA z s) ∧ (k_l K).stackTraces = false ∧ vx_L Bundle.tN "UNASSIGNED_STACK" Bundle.steD (fun q => k_b K ≤ q) s (k_H K) ∧ vx_L Bundle.tN "SUPPRESSED_SENTINEL" Bundle.listD (fun q => k_b K ≤ q) s (k_H K)
theorem g_KN.warm {K : g_K} {s U : State} (hW : s.WarmedH U.vm) (h : g_KN K s) : g_KN K U := by
  obtain ⟨h1, h2, h3, h4, h5, h6, h7, h8⟩ := h
  exact ⟨fun c q hq => u_Kn_moved hW.alike (h1 c q hq), fun k ty hk => ⟨arrOfT_moved hW.alike (h2 k ty hk).1, (h2 k ty hk).2.moved hW.alike⟩, fun w hw hg => g_wd_warm hg hW (h3 w hw hg),
    fun z hz => (h4 z hz).moved hW.alike, fun z hz => (h5 z hz).warm hW, fun z hz => (h6 z hz).moved hW.alike, fun z hz => (h7 z hz).warm hW, h8.1, vx_L.moved hW.alike h8.2.1, vx_L.moved hW.alike h8.2.2⟩
theorem g_KN.word {K : g_K} {s : State} (h : g_KN K s) {w : Cond} (hw : w ∈ lw_tbl) (hg : g_wd w = true) (args : Array Value) : w.before args s = true := h.2.2.1 w (Or.inl hw) hg args
theorem g_KN.nar {K : g_K} {s : State} (h : g_KN K s) {w : Cond} (hw : w ∈ lw_nar) (hg : g_wd w = true) (args : Array Value) : w.before args s = true := h.2.2.1 w (Or.inr hw) hg args
/-- a method: its name, its code, its locals, its answer's type, its handlers -/
abbrev g_M : Type := MethodName × ByteArray × Nat × Option FieldType × List (Nat × Nat × Nat × Nat)
def g_cw (M : g_M) : Cond := match M.2.2.2.2 with
  | [] => .code M.1 M.2.1 M.2.2.1 M.2.2.2.1
  | hh => .codeWith M.1 M.2.1 M.2.2.1 M.2.2.2.1 hh
theorem g_cw_onTables (M : g_M) : (g_cw M).onTables = true ∧ (g_cw M).keeps = true := by
  unfold g_cw
  split <;> exact ⟨rfl, rfl⟩
theorem g_cw_spec {M : g_M} {args : Array Value} {s : State} {m : MethodId} (hn : s.methodNamed? M.1 = some m) (h : (g_cw M).before args s = true) :
    ∃ meth c, s.vm.method? m = some meth ∧ meth.code = some c ∧ c.code = M.2.1 ∧ c.maxLocals = M.2.2.1 ∧ meth.sig.returnType = M.2.2.2.1 ∧ meth.locks = false ∧ c.exceptionTable.toList = tableOf M.2.2.2.2 ∧ parseMethodDescriptor M.1.desc = some meth.sig := by
  unfold g_cw at h
  split at h
  · rename_i e
    obtain ⟨meth, c, h1, h2, h3, h4, h5, h6, h7, h8⟩ := Cond.code_spec hn h
    refine ⟨meth, c, h1, h2, h3, h4, h5, h6, ?_, h8⟩
    rw [e, Array.isEmpty_iff.mp h7]
    rfl
  · obtain ⟨m9, meth, c, hn9, h1, h2, h3, h4, h5, h6, h7, h8⟩ := Cond.codeWith_spec h
    cases hn.symm.trans hn9
    refine ⟨meth, c, h1, h2, h3, h4, h6, h7, ?_, h8⟩
    rw [← h5, table_eq]
abbrev g_Q : Type := Option Value → g_P → Nat → Prop
abbrev g_X : Type := Nat → g_P → Nat → Prop
def g_end (K : g_K) (P : g_Q) (X : g_X) (st t : State) (o : Outcome) (mc ms : Nat) : Prop :=
  (∃ (v : Option Value) (h : g_P) (n : Nat), o = .returned v ∧ P v h n ∧ g_RH K t.heap h n ∧ ∃ L, FrameEnd st o t L mc ms ∧ ∀ q ∈ L, k_b K ≤ q.base) ∨
  (∃ (q : Addr) (h : g_P) (n : Nat), o = .threw q ∧ X q h n ∧ g_RH K t.heap h n ∧ st.WarmedH t.vm ∧ ∃ L, st.sameButNew ({ t with vm := st.vm } : State) L mc ms ∧ ∀ z ∈ L, k_b K ≤ z.base)
def g_rm (d bc bs : Nat) : Room := { frames := d, cells := bc, slots := bs, locals := 64 * d + 20000 }
/-- THE CONTRACT: called with the arguments av on the pure heap h (n cells), depth d, at most bc new cells of bs slots: P of the answer, the heap, its size; or X of what is thrown -/
def g_Met (K : g_K) (M : g_M) (d bc bs : Nat) (av : List Value) (h : g_P) (n : Nat) (P : g_Q) (X : g_X) : Prop :=
  MetFree (k_l K) M.1 (headSpec [g_cw M] (g_rm d bc bs)) (fun a U => a = av.toArray ∧ g_KN K U ∧ g_RH K U.heap h n) (fun _ _ _ _ _ => True) (fun _ st o t => g_end K P X st t o bc bs)
def g_MQ (K : g_K) (P : g_Q) (X : g_X) (below : List Frame) (s : State) (mc ms : Nat) : State → Prop := fun t => ∃ o, t.status = .running ∧ Ended t below o ∧ g_end K P X s t o mc ms
/-- the method's own context -/
def g_MC (K : g_K) (M : g_M) (p : Program) (s : State) (m : MethodId) (meth : Method) (c : Code) : Prop :=
  p.tables.exec = Jvm.exec ∧ c.code = M.2.1 ∧ c.maxLocals = M.2.2.1 ∧ meth.sig.returnType = M.2.2.2.1 ∧ s.vm.findClass M.1.cls = some m.cls ∧ meth.name = M.1.name ∧ meth.locks = false ∧ c.exceptionTable.toList = tableOf M.2.2.2.2 ∧ g_KN K s ∧ s.methodNamed? M.1 = some m
-- locals by their places
def g_has (ls : Array Slot) (L : List (Option Value)) : Prop := ls.size = L.length ∧ lv_wf ls ∧ ∀ (i : Nat) (v : Value), L[i]? = some (some v) → ls[i]? = some (.val v)
def g_prs : Nat → List (Option Value) → List (Nat × Value)
  | _, [] => []
  | k, none :: t => g_prs (k + 1) t
  | k, some v :: t => (k, v) :: g_prs (k + 1) t
theorem g_prs_mem : ∀ (L : List (Option Value)) (k i : Nat) (v : Value), (i, v) ∈ g_prs k L ↔ k ≤ i ∧ L[i - k]? = some (some v) := by
  intro L
  induction L with
  | nil => intro k i v; simp [g_prs]
  | cons x t ih =>
    intro k i v
    have key : (k + 1 ≤ i ∧ t[i - (k + 1)]? = some (some v)) ∨ (i = k ∧ x = some v) ↔ k ≤ i ∧ (x :: t)[i - k]? = some (some v) := by
      constructor
      · rintro (⟨h1, h2⟩ | ⟨h1, h2⟩)
        · refine ⟨by omega, ?_⟩
          rw [show i - k = (i - (k + 1)) + 1 by omega, List.getElem?_cons_succ]
          exact h2
        · subst h1
          subst h2
          exact ⟨Nat.le_refl _, by simp⟩
      · rintro ⟨h1, h2⟩
        by_cases hi : i = k
        · subst hi
          rw [Nat.sub_self, List.getElem?_cons_zero] at h2
          exact Or.inr ⟨rfl, Option.some.inj h2⟩
        · rw [show i - k = (i - (k + 1)) + 1 by omega, List.getElem?_cons_succ] at h2
          exact Or.inl ⟨by omega, h2⟩
    rw [← key]
    cases x with
    | none => simp [g_prs, ih]
    | some w =>
      simp only [g_prs, List.mem_cons, Prod.mk.injEq, ih, Option.some.injEq]
      constructor
      · rintro (⟨h1, h2⟩ | h)
        · exact Or.inr ⟨h1, h2.symm⟩
        · exact Or.inl h
      · rintro (h | ⟨h1, h2⟩)
        · exact Or.inr h
        · exact Or.inl ⟨h1, h2.symm⟩
theorem g_has.lv {ls : Array Slot} {L : List (Option Value)} (h : g_has ls L) : lv_has ls L.length (g_prs 0 L) :=
  ⟨h.1, h.2.1, fun q hq => h.2.2 q.1 q.2 (by have := ((g_prs_mem L 0 q.1 q.2).mp hq).2; simpa using this)⟩
theorem g_has.of {ls : Array Slot} {n : Nat} {lv : List (Nat × Value)} {L : List (Option Value)} (h : lv_has ls n lv) (hn : L.length = n) (hm : ∀ (i : Nat) (v : Value), L[i]? = some (some v) → (i, v) ∈ lv) : g_has ls L :=
  ⟨h.1.trans hn.symm, h.2.1, fun i v e => h.2.2 (i, v) (hm i v e)⟩
theorem g_has.at {ls : Array Slot} {L : List (Option Value)} (h : g_has ls L) {i : Nat} {v : Value} (e : L[i]? = some (some v)) : ls[i]? = some (.val v) := h.2.2 i v e
/-- not a long or a double: its next place isn't its second half -/
def g_c1 (x : Option Value) : Prop := ∀ v, x = some v → v.category ≠ 2
theorem g_c1n : g_c1 none := fun _ h => by cases h
theorem g_c1i {x : Int32} : g_c1 (some (.int x)) := fun v h => by cases h; show ¬ (1 : Nat) = 2; decide
theorem g_c1r {x : Nat} : g_c1 (some (.ref x)) := fun v h => by cases h; show ¬ (1 : Nat) = 2; decide
theorem g_c1z : g_c1 (some .null) := fun v h => by cases h; decide
theorem g_c1f {x : UInt32} : g_c1 (some (.float x)) := fun v h => by cases h; show ¬ (1 : Nat) = 2; decide
/-- the list behind a store at i of a value of one word -/
theorem g_st1 {L : List (Option Value)} {i : Nat} {x : Value} (hi : i < L.length) (hp : ∀ w, 1 ≤ i → L[i - 1]? = some (some w) → w.category ≠ 2) (j : Nat) (v : Value) (e : (L.set i (some x))[j]? = some (some v)) :
    (j, v) ∈ (i, x) :: (g_prs 0 L).filter (fun q => !(q.1 == i) && !(q.1 + 1 == i && q.2.category == 2)) := by
  by_cases hji : j = i
  · subst hji
    rw [List.getElem?_set_self hi] at e
    cases e
    exact List.mem_cons_self
  · rw [List.getElem?_set_ne (Ne.symm hji)] at e
    refine List.mem_cons_of_mem _ (List.mem_filter.mpr ⟨(g_prs_mem L 0 j v).mpr ⟨Nat.zero_le _, by simpa using e⟩, ?_⟩)
    have h2 : ¬ (j + 1 = i ∧ v.category = 2) := fun ⟨h3, h4⟩ => hp v (by omega) (by rw [show i - 1 = j by omega]; exact e) h4
    simp only [Bool.and_eq_true, Bool.not_eq_true', beq_eq_false_iff_ne, Bool.and_eq_false_iff, ne_eq]
    refine ⟨hji, ?_⟩
    by_cases h3 : j + 1 = i
    · exact Or.inr (fun h4 => h2 ⟨h3, h4⟩)
    · exact Or.inl h3
theorem g_st2 {L : List (Option Value)} {i : Nat} {x : Value} (hi : i + 1 < L.length) (hp : ∀ w, 1 ≤ i → L[i - 1]? = some (some w) → w.category ≠ 2) (j : Nat) (v : Value) (e : ((L.set i (some x)).set (i + 1) none)[j]? = some (some v)) :
    (j, v) ∈ (i, x) :: (g_prs 0 L).filter (fun q => !(q.1 == i) && (!(q.1 == i + 1) && !(q.1 + 1 == i && q.2.category == 2))) := by
  have hj1 : j ≠ i + 1 := by
    intro h
    subst h
    rw [List.getElem?_set_self (by simpa using hi)] at e
    cases e
  rw [List.getElem?_set_ne (Ne.symm hj1)] at e
  by_cases hji : j = i
  · subst hji
    rw [List.getElem?_set_self (by omega)] at e
    cases e
    exact List.mem_cons_self
  · rw [List.getElem?_set_ne (Ne.symm hji)] at e
    refine List.mem_cons_of_mem _ (List.mem_filter.mpr ⟨(g_prs_mem L 0 j v).mpr ⟨Nat.zero_le _, by simpa using e⟩, ?_⟩)
    have h2 : ¬ (j + 1 = i ∧ v.category = 2) := fun ⟨h3, h4⟩ => hp v (by omega) (by rw [show i - 1 = j by omega]; exact e) h4
    simp only [Bool.and_eq_true, Bool.not_eq_true', beq_eq_false_iff_ne, Bool.and_eq_false_iff, ne_eq]
    refine ⟨hji, hj1, ?_⟩
    by_cases h3 : j + 1 = i
    · exact Or.inr (fun h4 => h2 ⟨h3, h4⟩)
    · exact Or.inl h3
-- the judgement
/-- THE WALK: from pc, with the locals L and the operands st, on the pure heap h (n cells), with bc cells of bs slots left to make, the method comes to its end with P, or X -/
def g_G (K : g_K) (M : g_M) (d bc bs : Nat) (P : g_Q) (X : g_X) (pc : Nat) (L : List (Option Value)) (st : List Value) (h : g_P) (n : Nat) : Prop :=
  ∀ (p : Program) (e : Env) (R : Room) (s : State) (m : MethodId) (args : Array Value) (below : List Frame) (meth : Method) (c : Code) (H : Heap) (locs : List Loc) (cells slots : Nat) (ls : Array Slot),
    g_MC K M p s m meth c → d ≤ R.frames → 64 * d + 20000 ≤ R.locals → cells + bc ≤ R.cells → slots + bs ≤ R.slots → g_RH K H h n → (∀ z ∈ locs, k_b K ≤ z.base) → g_has ls L →
    W p (k_l K) e R s m args below meth c H locs cells slots (g_MQ K P X below s R.cells R.slots) (F0 m pc ls st)
/-- the same, with q thrown at pc -/
def g_GX (K : g_K) (M : g_M) (d bc bs : Nat) (P : g_Q) (X : g_X) (pc : Nat) (L : List (Option Value)) (h : g_P) (n : Nat) (q : Nat) : Prop :=
  ∀ (p : Program) (e : Env) (R : Room) (s : State) (m : MethodId) (args : Array Value) (below : List Frame) (meth : Method) (c : Code) (H : Heap) (locs : List Loc) (cells slots : Nat) (ls : Array Slot) (rest : List Value),
    g_MC K M p s m meth c → d ≤ R.frames → 64 * d + 20000 ≤ R.locals → cells + bc ≤ R.cells → slots + bs ≤ R.slots → g_RH K H h n → (∀ z ∈ locs, k_b K ≤ z.base) → g_has ls L →
    vx_W p (k_l K) e R s m args below meth c H locs cells slots (g_MQ K P X below s R.cells R.slots) (F0 m pc ls rest) q
section
variable {K : g_K} {M : g_M} {d bc bs : Nat} {P : g_Q} {X : g_X} {pc : Nat} {L : List (Option Value)} {st : List Value} {h : g_P} {n : Nat}
/-- a row of the machine's that moves neither heap nor room -/
theorem g_go {pc' : Nat} {L' : List (Option Value)} {st' : List Value}
    (f : ∀ (p : Program) (e : Env) (R : Room) (s : State) (m : MethodId) (args : Array Value) (below : List Frame) (meth : Method) (c : Code) (H : Heap) (locs : List Loc) (cells slots : Nat) (ls : Array Slot) (Q : State → Prop), g_MC K M p s m meth c → g_RH K H h n → g_has ls L →
      (∀ ls' : Array Slot, g_has ls' L' → W p (k_l K) e R s m args below meth c H locs cells slots Q (F0 m pc' ls' st')) → W p (k_l K) e R s m args below meth c H locs cells slots Q (F0 m pc ls st))
    (k : g_G K M d bc bs P X pc' L' st' h n) : g_G K M d bc bs P X pc L st h n := by
  intro p e R s m args below meth c H locs cells slots ls hM h1 h2 h3 h4 hR hl hs
  exact f p e R s m args below meth c H locs cells slots ls _ hM hR hs fun ls' hs' => k p e R s m args below meth c H locs cells slots ls' hM h1 h2 h3 h4 hR hl hs'
theorem g_go2 {pc1 pc2 : Nat} {st1 st2 : List Value} {C : Prop}
    (f : ∀ (p : Program) (e : Env) (R : Room) (s : State) (m : MethodId) (args : Array Value) (below : List Frame) (meth : Method) (c : Code) (H : Heap) (locs : List Loc) (cells slots : Nat) (ls : Array Slot) (Q : State → Prop), g_MC K M p s m meth c →
      (C → W p (k_l K) e R s m args below meth c H locs cells slots Q (F0 m pc1 ls st1)) → (¬ C → W p (k_l K) e R s m args below meth c H locs cells slots Q (F0 m pc2 ls st2)) → W p (k_l K) e R s m args below meth c H locs cells slots Q (F0 m pc ls st))
    (k1 : C → g_G K M d bc bs P X pc1 L st1 h n) (k2 : ¬ C → g_G K M d bc bs P X pc2 L st2 h n) : g_G K M d bc bs P X pc L st h n := by
  intro p e R s m args below meth c H locs cells slots ls hM h1 h2 h3 h4 hR hl hs
  exact f p e R s m args below meth c H locs cells slots ls _ hM (fun z => k1 z p e R s m args below meth c H locs cells slots ls hM h1 h2 h3 h4 hR hl hs) (fun z => k2 z p e R s m args below meth c H locs cells slots ls hM h1 h2 h3 h4 hR hl hs)
/-- less room is enough -/
theorem g_bud {bc' bs' d' : Nat} (h1 : bc' ≤ bc) (h2 : bs' ≤ bs) (h3 : d' ≤ d) (k : g_G K M d' bc' bs' P X pc L st h n) : g_G K M d bc bs P X pc L st h n := by
  intro p e R s m args below meth c H locs cells slots ls hM g1 g2 g3 g4 hR hl hs
  exact k p e R s m args below meth c H locs cells slots ls hM (by omega) (by omega) (by omega) (by omega) hR hl hs
theorem g_budX {bc' bs' d' q : Nat} (h1 : bc' ≤ bc) (h2 : bs' ≤ bs) (h3 : d' ≤ d) (k : g_GX K M d' bc' bs' P X pc L h n q) : g_GX K M d bc bs P X pc L h n q := by
  intro p e R s m args below meth c H locs cells slots ls rest hM g1 g2 g3 g4 hR hl hs
  exact k p e R s m args below meth c H locs cells slots ls rest hM (by omega) (by omega) (by omega) (by omega) hR hl hs
/-- fewer locals -/
theorem g_drop {L' : List (Option Value)} (hn : L'.length = L.length) (hm : ∀ (i : Nat) (v : Value), L'[i]? = some (some v) → L[i]? = some (some v)) (k : g_G K M d bc bs P X pc L' st h n) : g_G K M d bc bs P X pc L st h n := by
  intro p e R s m args below meth c H locs cells slots ls hM g1 g2 g3 g4 hR hl hs
  exact k p e R s m args below meth c H locs cells slots ls hM g1 g2 g3 g4 hR hl ⟨hs.1.trans hn.symm, hs.2.1, fun i v e => hs.2.2 i v (hm i v e)⟩
/-- what the pure heap always says -/
theorem g_facts (k : k_b K ≤ n → (∀ (a : Nat) (c : g_C), h a = some c → a < n) → (∀ a : Nat, a < k_b K → h a = k_p K a) → g_G K M d bc bs P X pc L st h n) : g_G K M d bc bs P X pc L st h n := by
  intro p e R s m args below meth c H locs cells slots ls hM g1 g2 g3 g4 hR hl hs
  exact k hR.2.1 (fun a c e => hR.lt e) (fun a ha => hR.2.2.2.2 a ha) p e R s m args below meth c H locs cells slots ls hM g1 g2 g3 g4 hR hl hs
/-- a goal named anew -/
theorem g_eq {pc' : Nat} {L' : List (Option Value)} {st' : List Value} {h' : g_P} (e1 : pc = pc') (e2 : L = L') (e3 : st = st') (e4 : h = h') (k : g_G K M d bc bs P X pc' L' st' h' n) : g_G K M d bc bs P X pc L st h n := by
  subst e1; subst e2; subst e3; subst e4
  exact k
theorem g_st {st' : List Value} (e3 : st = st') (k : g_G K M d bc bs P X pc L st' h n) : g_G K M d bc bs P X pc L st h n := by
  subst e3
  exact k
end
/-- the post may say less -/
theorem g_end.mono {K : g_K} {P P' : g_Q} {X X' : g_X} {st t : State} {o : Outcome} {mc ms : Nat} (hP : ∀ v h n, P v h n → P' v h n) (hX : ∀ q h n, X q h n → X' q h n) (h : g_end K P X st t o mc ms) : g_end K P' X' st t o mc ms := by
  rcases h with ⟨v, h, n, e, hp, r⟩ | ⟨q, h, n, e, hp, r⟩
  · exact Or.inl ⟨v, h, n, e, hP _ _ _ hp, r⟩
  · exact Or.inr ⟨q, h, n, e, hX _ _ _ hp, r⟩
theorem g_Met.mono {K : g_K} {M : g_M} {d bc bs : Nat} {av : List Value} {h : g_P} {n : Nat} {P P' : g_Q} {X X' : g_X} (hM : g_Met K M d bc bs av h n P X) (hP : ∀ v h n, P v h n → P' v h n) (hX : ∀ q h n, X q h n → X' q h n) : g_Met K M d bc bs av h n P' X' := by
  intro p e h1 h2 h3 s m args below hf ha hp hk
  obtain ⟨k, o, q1, q2, q3, q4⟩ := hM p e h1 h2 h3 s m args below hf ha hp hk
  exact ⟨k, o, q1, q2, q3, q4.mono hP hX⟩
/-- a contract's facts of its start -/
theorem g_Met.facts {K : g_K} {M : g_M} {d bc bs : Nat} {av : List Value} {h : g_P} {n : Nat} {P : g_Q} {X : g_X} (k : k_b K ≤ n → (∀ (a : Nat) (c : g_C), h a = some c → a < n) → (∀ a : Nat, a < k_b K → h a = k_p K a) → g_Met K M d bc bs av h n P X) : g_Met K M d bc bs av h n P X := by
  intro p e h1 h2 h3 s m args below hf ha hp hk
  have hR := hp.2.2
  exact k hR.2.1 (fun a c e => hR.lt e) (fun a ha => hR.2.2.2.2 a ha) p e h1 h2 h3 s m args below hf ha hp hk
/-- the list of locals with which a method begins -/
def g_lo : List Value → List (Option Value)
  | [] => []
  | v :: t => if v.category = 2 then some v :: none :: g_lo t else some v :: g_lo t
def g_ent (av : List Value) (n : Nat) : List (Option Value) := g_lo av ++ List.replicate (n - (g_lo av).length) none
theorem g_lo_len : ∀ av : List Value, (g_lo av).length = (lg_sl av).length := by
  intro av
  induction av with
  | nil => rfl
  | cons v t ih =>
    by_cases hv : v.category = 2
    · simp [g_lo, lg_sl, hv] at ih ⊢
      exact ih
    · simp [g_lo, lg_sl, hv] at ih ⊢
      exact ih
theorem g_lo_at : ∀ (av : List Value) (i : Nat) (v : Value), (g_lo av)[i]? = some (some v) → (lg_sl av)[i]? = some (.val v) := by
  intro av
  induction av with
  | nil => intro i v e; simp [g_lo] at e
  | cons w t ih =>
    intro i v e
    by_cases hw : w.category = 2
    · have e1 : g_lo (w :: t) = some w :: none :: g_lo t := by simp [g_lo, hw]
      have e2 : lg_sl (w :: t) = .val w :: .second :: lg_sl t := by simp [lg_sl, hw]
      rw [e1] at e
      rw [e2]
      match i with
      | 0 => simpa using e
      | 1 => simp at e
      | i + 2 => simpa using ih i v (by simpa using e)
    · have e1 : g_lo (w :: t) = some w :: g_lo t := by simp [g_lo, hw]
      have e2 : lg_sl (w :: t) = .val w :: lg_sl t := by simp [lg_sl, hw]
      rw [e1] at e
      rw [e2]
      match i with
      | 0 => simpa using e
      | i + 1 => simpa using ih i v (by simpa using e)
/-- A CONTRACT OUT OF A WALK -/
theorem g_Met.of {K : g_K} {M : g_M} {d bc bs : Nat} {av : List Value} {h : g_P} {n : Nat} {P : g_Q} {X : g_X} (hy : plainFor M.1 = true) (hlen : (g_lo av).length ≤ M.2.2.1) {L : List (Option Value)} (hL : g_ent av M.2.2.1 = L) (k : g_G K M d bc bs P X 0 L [] h n) : g_Met K M d bc bs av h n P X := by
  subst hL
  refine MetFree.of_bodySF (code := M.2.1) (maxLocals := M.2.2.1) (ret := M.2.2.2.1) hy ?_ ?_
  · intro args s m h1 hn
    obtain ⟨meth, c, h1, h2, h3, h4, h5, h6, -, -⟩ := g_cw_spec hn (atoms_spec (ws := [g_cw M]) h1 _ List.mem_cons_self)
    exact ⟨meth, c, h1, h2, h3, h4, h5, h6⟩
  · intro p e s m args below meth c s₁ B hml hP _
    obtain ⟨rfl, hKN, hR⟩ := hP
    have hh0 : s₁.heap = s.heap := by rw [B.state]; rfl
    have ht : c.exceptionTable.toList = tableOf M.2.2.2.2 := by
      obtain ⟨meth9, c9, h1, h2, -, -, -, -, h7, -⟩ := g_cw_spec B.named (atoms_spec (ws := [g_cw M]) B.pre _ List.mem_cons_self)
      cases Option.some.inj (h1.symm.trans B.method)
      cases Option.some.inj (h2.symm.trans (Stand.of_body B).code)
      exact h7
    have hMC : g_MC K M p s m meth c := ⟨B.exec, B.bytes, hml, B.returns, findClass_of_methodNamed B.named, (name_of_methodNamed B.named B.method).1, B.notSynchronized, ht, hKN, B.named⟩
    have hlen' : (lg_sl av).length ≤ M.2.2.1 := by rw [← g_lo_len]; exact hlen
    have hent := lv_entry av (n := M.2.2.1) hlen'
    have hs : g_has ((lg_sl av ++ List.replicate (M.2.2.1 - (lg_sl av).length) Slot.unset).toArray) (g_ent av M.2.2.1) := by
      refine ⟨?_, hent.2.1, fun i v e => ?_⟩
      · simp [g_ent, g_lo_len]
      · have hi : i < (g_lo av).length := by
          rcases Nat.lt_or_ge i (g_lo av).length with q | q
          · exact q
          · unfold g_ent at e
            rw [List.getElem?_append_right q, List.getElem?_replicate] at e
            split at e <;> simp at e
        unfold g_ent at e
        rw [List.getElem?_append_left hi] at e
        have := g_lo_at av i v e
        rw [List.getElem?_toArray, List.getElem?_append_left (by rw [← g_lo_len]; exact hi)]
        exact this
    have w := k p e (headSpec [g_cw M] (g_rm d bc bs)).room s m av.toArray below meth c s.heap [] 0 0 _ hMC (Nat.le_refl _) (Nat.le_refl _) (by show 0 + bc ≤ bc; omega) (by show 0 + bs ≤ bs; omega) hR (fun z hz => by cases hz) hs
    rw [← lg_entry_eq] at w
    obtain ⟨t, a1, o, b1, b2, b3⟩ := w s₁ hh0 (Stand.of_body B)
    exact ⟨t, o, a1, b1, b2, b3⟩
