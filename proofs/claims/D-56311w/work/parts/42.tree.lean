/-! red-black trees on the pure heap: a subtree by its nodes in order, a context around a hole (no program here) -/
set_option maxRecDepth 100000
/-- a node: its address, key, value -/
abbrev c_N : Type := Nat × Value × Value
abbrev nC (k v l r p : Value) (c : Bool) : g_C := g_ob 24 [k, v, l, r, p, .int (if c then nI 1 else nI 0)]
/-- a subtree of at most k levels at x under p; its nodes in order -/
def seg (h : g_P) : Nat → List c_N → Value → Value → Prop
  | 0, L, x, _ => L = [] ∧ x = .null
  | k + 1, L, x, p => (L = [] ∧ x = .null) ∨ ∃ (A B : List c_N) (a : Nat) (kk v l r : Value) (c : Bool), L = A ++ (a, kk, v) :: B ∧ x = .ref a ∧ h a = some (nC kk v l r p c) ∧ seg h k A l (.ref a) ∧ seg h k B r (.ref a)
def sg (h : g_P) (L : List c_N) (x p : Value) : Prop := ∃ k, seg h k L x p
section
variable {h h' : g_P}
theorem seg.up1 : ∀ {k : Nat} {L : List c_N} {x p : Value}, seg h k L x p → seg h (k + 1) L x p := by
  intro k
  induction k with
  | zero => intro L x p s; exact Or.inl s
  | succ k ih =>
    intro L x p s
    rcases s with s | ⟨A, B, a, kk, v, l, r, c, e1, e2, e3, s1, s2⟩
    · exact Or.inl s
    · exact Or.inr ⟨A, B, a, kk, v, l, r, c, e1, e2, e3, ih s1, ih s2⟩
theorem seg.mono {k j : Nat} {L : List c_N} {x p : Value} (s : seg h k L x p) (hk : k ≤ j) : seg h j L x p := by
  induction hk with
  | refl => exact s
  | step _ ih => exact ih.up1
theorem sg.nil {p : Value} : sg h [] .null p := ⟨0, rfl, rfl⟩
theorem sg.node {A B : List c_N} {a : Nat} {kk v l r p : Value} {c : Bool} (e : h a = some (nC kk v l r p c)) (s1 : sg h A l (.ref a)) (s2 : sg h B r (.ref a)) : sg h (A ++ (a, kk, v) :: B) (.ref a) p := by
  obtain ⟨k1, s1⟩ := s1
  obtain ⟨k2, s2⟩ := s2
  exact ⟨max k1 k2 + 1, Or.inr ⟨A, B, a, kk, v, l, r, c, rfl, rfl, e, s1.mono (Nat.le_max_left _ _), s2.mono (Nat.le_max_right _ _)⟩⟩
theorem sg.cases {L : List c_N} {x p : Value} (s : sg h L x p) : (L = [] ∧ x = .null) ∨ ∃ (A B : List c_N) (a : Nat) (kk v l r : Value) (c : Bool), L = A ++ (a, kk, v) :: B ∧ x = .ref a ∧ h a = some (nC kk v l r p c) ∧ sg h A l (.ref a) ∧ sg h B r (.ref a) := by
  obtain ⟨k, s⟩ := s
  cases k with
  | zero => exact Or.inl s
  | succ k =>
    rcases s with s | ⟨A, B, a, kk, v, l, r, c, e1, e2, e3, s1, s2⟩
    · exact Or.inl s
    · exact Or.inr ⟨A, B, a, kk, v, l, r, c, e1, e2, e3, ⟨k, s1⟩, ⟨k, s2⟩⟩
theorem sg.null {L : List c_N} {p : Value} (s : sg h L .null p) : L = [] := by
  rcases s.cases with ⟨e, -⟩ | ⟨A, B, a, kk, v, l, r, c, e1, e2, -⟩
  · exact e
  · cases e2
theorem sg.mem {L : List c_N} {a : Nat} {p : Value} (s : sg h L (.ref a) p) : ∃ kk v l r c A B, L = A ++ (a, kk, v) :: B ∧ h a = some (nC kk v l r p c) ∧ sg h A l (.ref a) ∧ sg h B r (.ref a) := by
  rcases s.cases with ⟨-, e⟩ | ⟨A, B, b, kk, v, l, r, c, e1, e2, e3, s1, s2⟩
  · cases e
  · cases e2
    exact ⟨kk, v, l, r, c, A, B, e1, e3, s1, s2⟩
theorem sg.vr {L : List c_N} {x p : Value} (s : sg h L x p) : x = .null ∨ ∃ a, x = .ref a := by
  rcases s.cases with ⟨-, e⟩ | ⟨A, B, b, kk, v, l, r, c, e1, e2, -⟩
  · exact Or.inl e
  · exact Or.inr ⟨b, e2⟩
theorem sg.keep {L : List c_N} {x p : Value} (s : sg h L x p) (f : ∀ z ∈ L, h' z.1 = h z.1) : sg h' L x p := by
  obtain ⟨k, s⟩ := s
  refine ⟨k, ?_⟩
  induction k generalizing L x p with
  | zero => exact s
  | succ k ih =>
    rcases s with s | ⟨A, B, a, kk, v, l, r, c, rfl, e2, e3, s1, s2⟩
    · exact Or.inl s
    · refine Or.inr ⟨A, B, a, kk, v, l, r, c, rfl, e2, ?_, ih (fun z hz => f z (by simp [hz])) s1, ih (fun z hz => f z (by simp [hz])) s2⟩
      rw [f (a, kk, v) (by simp)]
      exact e3
theorem sg.up {L : List c_N} {x p : Value} {a : Nat} {c : g_C} (s : sg h L x p) (f : ∀ z ∈ L, z.1 ≠ a) : sg (g_up h a c) L x p := s.keep fun z hz => g_un (f z hz)
theorem nd_ne {A B : List c_N} {a : Nat} {kk v : Value} (n : ((A ++ (a, kk, v) :: B).map Prod.fst).Nodup) : ∀ z ∈ A ++ B, z.1 ≠ a := by
  rw [List.map_append, List.map_cons] at n
  have n2 := (List.perm_middle (a := a) (l₁ := A.map Prod.fst) (l₂ := B.map Prod.fst)).nodup_iff.mp n
  rw [← List.map_append] at n2
  intro z hz e
  exact (List.nodup_cons.mp n2).1 (List.mem_map.mpr ⟨z, hz, e⟩)
/-- the parent's pointer of a subtree's root turned -/
theorem sg.par {L : List c_N} {a : Nat} {p p' kk v l r : Value} {c : Bool} (s : sg h L (.ref a) p) (n : (L.map Prod.fst).Nodup) (e : h a = some (nC kk v l r p c)) (c' : Bool) : sg (g_up h a (nC kk v l r p' c')) L (.ref a) p' := by
  obtain ⟨kk2, v2, l2, r2, c2, A, B, rfl, e2, s1, s2⟩ := s.mem
  have e3 : nC kk v l r p c = nC kk2 v2 l2 r2 p c2 := Option.some.inj (e.symm.trans e2)
  have e4 : kk = kk2 ∧ v = v2 ∧ l = l2 ∧ r = r2 := by simp [nC, g_ob] at e3; exact ⟨e3.1, e3.2.1, e3.2.2.1, e3.2.2.2.1⟩
  obtain ⟨rfl, rfl, rfl, rfl⟩ := e4
  have f := nd_ne n
  exact sg.node g_us (s1.up fun z hz => f z (by simp [hz])) (s2.up fun z hz => f z (by simp [hz]))
/-- a context: before and behind, the hole's value, its parent, the root -/
def ctx (h : g_P) : Nat → List c_N → List c_N → Value → Value → Value → Prop
  | 0, A, B, x, p, t => A = [] ∧ B = [] ∧ p = .null ∧ t = x
  | k + 1, A, B, x, p, t => ∃ (a : Nat) (kk v o q : Value) (c : Bool) (A' B' O : List c_N), p = .ref a ∧ sg h O o (.ref a) ∧ ((h a = some (nC kk v x o q c) ∧ A = A' ∧ B = (a, kk, v) :: (O ++ B')) ∨ (h a = some (nC kk v o x q c) ∧ A = A' ++ (O ++ [(a, kk, v)]) ∧ B = B')) ∧ ctx h k A' B' (.ref a) q t
theorem ctx.plug {k : Nat} {A B L : List c_N} {x p t : Value} (c : ctx h k A B x p t) (s : sg h L x p) : sg h (A ++ (L ++ B)) t .null := by
  induction k generalizing A B L x p with
  | zero =>
    obtain ⟨rfl, rfl, rfl, rfl⟩ := c
    simpa using s
  | succ k ih =>
    obtain ⟨a, kk, v, o, q, c, A', B', O, rfl, so, ⟨e, rfl, rfl⟩ | ⟨e, rfl, rfl⟩, c2⟩ := c
    · have := ih c2 (sg.node e s so)
      simpa using this
    · have := ih c2 (sg.node e so s)
      simpa using this
theorem ctx.keep {k : Nat} {A B : List c_N} {x p t : Value} (c : ctx h k A B x p t) (f : ∀ z ∈ A ++ B, h' z.1 = h z.1) : ctx h' k A B x p t := by
  induction k generalizing A B x p with
  | zero => exact c
  | succ k ih =>
    obtain ⟨a, kk, v, o, q, c, A', B', O, rfl, so, ⟨e, rfl, rfl⟩ | ⟨e, rfl, rfl⟩, c2⟩ := c
    · refine ⟨a, kk, v, o, q, c, A, B', O, rfl, so.keep fun z hz => f z (by simp [hz]), Or.inl ⟨(f (a, kk, v) (by simp)).trans e, rfl, rfl⟩, ih c2 fun z hz => f z ?_⟩
      rcases List.mem_append.mp hz with q | q <;> simp [q]
    · refine ⟨a, kk, v, o, q, c, A', B, O, rfl, so.keep fun z hz => f z (by simp [hz]), Or.inr ⟨(f (a, kk, v) (by simp)).trans e, rfl, rfl⟩, ih c2 fun z hz => f z ?_⟩
      rcases List.mem_append.mp hz with q | q <;> simp [q]
theorem ctx.up {k : Nat} {A B : List c_N} {x p t : Value} {a : Nat} {c : g_C} (c0 : ctx h k A B x p t) (f : ∀ z ∈ A ++ B, z.1 ≠ a) : ctx (g_up h a c) k A B x p t := c0.keep fun z hz => g_un (f z hz)
/-- the root of a context that isn't empty lies in it -/
theorem ctx.root {k : Nat} {A B : List c_N} {x p t : Value} (c : ctx h k A B x p t) : (k = 0 ∧ A = [] ∧ B = [] ∧ p = .null ∧ t = x) ∨ (0 < k ∧ ∃ z ∈ A ++ B, t = .ref z.1) := by
  induction k generalizing A B x p with
  | zero => exact Or.inl ⟨rfl, c⟩
  | succ k ih =>
    right
    refine ⟨by omega, ?_⟩
    obtain ⟨a, kk, v, o, q, c, A', B', O, rfl, so, ⟨e, rfl, rfl⟩ | ⟨e, rfl, rfl⟩, c2⟩ := c
    · rcases ih c2 with ⟨-, -, -, -, rfl⟩ | ⟨-, z, hz, rfl⟩
      · exact ⟨(a, kk, v), by simp, rfl⟩
      · refine ⟨z, ?_, rfl⟩
        rcases List.mem_append.mp hz with q | q <;> simp [q]
    · rcases ih c2 with ⟨-, -, -, -, rfl⟩ | ⟨-, z, hz, rfl⟩
      · exact ⟨(a, kk, v), by simp, rfl⟩
      · refine ⟨z, ?_, rfl⟩
        rcases List.mem_append.mp hz with q | q <;> simp [q]
/-- a node of a subtree brought into focus -/
theorem sg.foc {L L1 L2 : List c_N} {x p t : Value} {a : Nat} {kk v : Value} (s : sg h L x p) (e : L = L1 ++ (a, kk, v) :: L2) {k : Nat} {A B : List c_N} (c : ctx h k A B x p t) :
    ∃ (j : Nat) (A1 A2 B1 B2 : List c_N) (l r q : Value) (cc : Bool), L1 = A1 ++ A2 ∧ L2 = B1 ++ B2 ∧ h a = some (nC kk v l r q cc) ∧ sg h A2 l (.ref a) ∧ sg h B1 r (.ref a) ∧ ctx h j (A ++ A1) (B2 ++ B) (.ref a) q t := by
  obtain ⟨n, s⟩ := s
  induction n generalizing L L1 L2 x p k A B with
  | zero =>
    obtain ⟨rfl, -⟩ := s
    simp at e
  | succ n ih =>
    rcases s with ⟨rfl, -⟩ | ⟨U, V, b, kb, vb, l, r, cb, rfl, rfl, eb, s1, s2⟩
    · simp at e
    · rcases List.append_eq_append_iff.mp e with ⟨Y, rfl, e2⟩ | ⟨Y, rfl, e2⟩
      · cases Y with
        | nil =>
          simp only [List.nil_append, List.cons.injEq, Prod.mk.injEq] at e2
          obtain ⟨⟨rfl, rfl, rfl⟩, rfl⟩ := e2
          exact ⟨k, [], U, V, [], l, r, p, cb, by simp, by simp, eb, ⟨n, s1⟩, ⟨n, s2⟩, by simpa using c⟩
        | cons y Y =>
          simp only [List.cons_append, List.cons.injEq] at e2
          obtain ⟨rfl, e2⟩ := e2
          obtain ⟨j, A1, A2, B1, B2, l', r', q, cc, rfl, rfl, z1, z2, z3, z4⟩ := ih (k := k + 1) (A := A ++ (U ++ [(b, kb, vb)])) (B := B) e2 ⟨b, kb, vb, l, p, cb, A, B, U, rfl, ⟨n, s1⟩, Or.inr ⟨eb, rfl, rfl⟩, c⟩ s2
          exact ⟨j, U ++ (b, kb, vb) :: A1, A2, B1, B2, l', r', q, cc, by simp, rfl, z1, z2, z3, by simpa using z4⟩
      · cases Y with
        | nil =>
          simp only [List.nil_append, List.cons.injEq, Prod.mk.injEq] at e2
          obtain ⟨⟨rfl, rfl, rfl⟩, rfl⟩ := e2
          exact ⟨k, [], L1, L2, [], l, r, p, cb, by simp, by simp, eb, ⟨n, by simpa using s1⟩, ⟨n, s2⟩, by simpa using c⟩
        | cons y Y =>
          simp only [List.cons_append, List.cons.injEq] at e2
          obtain ⟨rfl, rfl⟩ := e2
          obtain ⟨j, A1, A2, B1, B2, l', r', q, cc, rfl, rfl, z1, z2, z3, z4⟩ := ih (k := k + 1) (A := A) (B := (b, kb, vb) :: (V ++ B)) rfl ⟨b, kb, vb, r, p, cb, A, B, V, rfl, ⟨n, s2⟩, Or.inl ⟨eb, rfl, rfl⟩, c⟩ s1
          exact ⟨j, A1, A2, B1, B2 ++ (b, kb, vb) :: V, l', r', q, cc, rfl, by simp, z1, z2, z3, by simpa using z4⟩
theorem sg.ne {L : List c_N} {b : Nat} {p : Value} (s : sg h L (.ref b) p) {a : Nat} (f : ∀ z ∈ L, z.1 ≠ a) : b ≠ a := by
  obtain ⟨kk, v, l, r, c, A, B, rfl, -⟩ := s.mem
  exact f (b, kk, v) (by simp)
end
