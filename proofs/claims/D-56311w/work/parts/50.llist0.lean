/-! linked lists on the pure heap (no program here) -/
set_option maxRecDepth 100000
abbrev lN_ (v nx p : Value) : g_C := g_ob 34 [v, nx, p]
/-- a run of nodes: from x (behind p) on, its last y, the next of it e -/
def ds (h : g_P) : List (Nat × Value) → Value → Value → Value → Value → Prop
  | [], x, p, e, y => x = e ∧ y = p
  | (a, v) :: Q, x, p, e, y => x = .ref a ∧ ∃ nx, h a = some (lN_ v nx p) ∧ ds h Q nx (.ref a) e y
section
variable {h h' : g_P}
theorem ds.keep {Q : List (Nat × Value)} {x p e y : Value} (s : ds h Q x p e y) (f : ∀ z ∈ Q, h' z.1 = h z.1) : ds h' Q x p e y := by
  induction Q generalizing x p with
  | nil => exact s
  | cons q Q ih =>
    obtain ⟨a, v⟩ := q
    obtain ⟨rfl, nx, e1, s⟩ := s
    exact ⟨rfl, nx, (f (a, v) (by simp)).trans e1, ih s fun z hz => f z (by simp [hz])⟩
theorem ds.up {Q : List (Nat × Value)} {x p e y : Value} {a : Nat} {c : g_C} (s : ds h Q x p e y) (f : ∀ z ∈ Q, z.1 ≠ a) : ds (g_up h a c) Q x p e y := s.keep fun z hz => g_un (f z hz)
theorem ds.app {Q1 Q2 : List (Nat × Value)} {x p e y : Value} : ds h (Q1 ++ Q2) x p e y ↔ ∃ z w, ds h Q1 x p z w ∧ ds h Q2 z w e y := by
  induction Q1 generalizing x p with
  | nil =>
    constructor
    · intro s; exact ⟨x, p, ⟨rfl, rfl⟩, s⟩
    · rintro ⟨z, w, ⟨rfl, rfl⟩, s⟩; exact s
  | cons q Q1 ih =>
    obtain ⟨a, v⟩ := q
    constructor
    · rintro ⟨rfl, nx, e1, s⟩
      obtain ⟨z, w, s1, s2⟩ := ih.mp s
      exact ⟨z, w, ⟨rfl, nx, e1, s1⟩, s2⟩
    · rintro ⟨z, w, ⟨rfl, nx, e1, s1⟩, s2⟩
      exact ⟨rfl, nx, e1, ih.mpr ⟨z, w, s1, s2⟩⟩
theorem ds.mem {Q : List (Nat × Value)} {x p e y : Value} (s : ds h Q x p e y) : ∀ z ∈ Q, ∃ nx q, h z.1 = some (lN_ z.2 nx q) := by
  induction Q generalizing x p with
  | nil => intro z hz; simp at hz
  | cons q Q ih =>
    obtain ⟨a, v⟩ := q
    obtain ⟨rfl, nx, e1, s⟩ := s
    intro z hz
    rcases List.mem_cons.mp hz with rfl | hz
    · exact ⟨_, _, e1⟩
    · exact ih s z hz
/-- the list at l: its nodes and what they hold -/
def lk (K : g_K) (l : Nat) (m : Int32) (Q : List (Nat × Value)) (h : g_P) : Prop :=
  (∃ x y, h l = some (g_ob 19 [.int m, .int (nI Q.length), x, y]) ∧ ds h Q x .null .null y) ∧ (Q.map Prod.fst).Nodup ∧ (∀ z ∈ Q, z.1 ≠ l ∧ k_b K ≤ z.1) ∧ ∀ z ∈ Q, z.2 = .null ∨ ∃ a, z.2 = .ref a
theorem lk.keep {K : g_K} {l : Nat} {m : Int32} {Q : List (Nat × Value)} (s : lk K l m Q h) (e : h' l = h l) (f : ∀ z ∈ Q, h' z.1 = h z.1) : lk K l m Q h' := by
  obtain ⟨⟨x, y, e1, s1⟩, s2⟩ := s
  exact ⟨⟨x, y, e.trans e1, s1.keep f⟩, s2⟩
/-- the first of a run -/
def fsV (Q : List (Nat × Value)) (e : Value) : Value := match Q with
  | [] => e
  | z :: _ => .ref z.1
theorem ds.fst {Q : List (Nat × Value)} {x p e y : Value} (s : ds h Q x p e y) : x = fsV Q e := by
  cases Q with
  | nil => exact s.1
  | cons q Q => exact s.1
/-- a run's first node, its back pointer turned -/
theorem ds.prev {b : Nat} {u : Value} {Q : List (Nat × Value)} {x p p' e y : Value} (s : ds h ((b, u) :: Q) x p e y) (n : (((b, u) :: Q).map Prod.fst).Nodup) (e2 : ∀ nx, h b = some (lN_ u nx p) → h' b = some (lN_ u nx p')) (f : ∀ z ∈ Q, h' z.1 = h z.1) : ds h' ((b, u) :: Q) x p' e y := by
  obtain ⟨rfl, nx, e1, s⟩ := s
  exact ⟨rfl, nx, e2 nx e1, s.keep f⟩
theorem nd1 {Q : List (Nat × Value)} {a : Nat} {v : Value} (n : (((a, v) :: Q).map Prod.fst).Nodup) : ∀ z ∈ Q, z.1 ≠ a := fun z hz e => (List.nodup_cons.mp n).1 (List.mem_map.mpr ⟨z, hz, e⟩)
theorem nd2 {Q : List (Nat × Value)} {a : Nat} {v : Value} (n : ((Q ++ [(a, v)]).map Prod.fst).Nodup) : ∀ z ∈ Q, z.1 ≠ a := by
  intro z hz e
  rw [List.map_append, List.nodup_append] at n
  exact n.2.2 _ (List.mem_map.mpr ⟨z, hz, rfl⟩) a (by simp) e
theorem snoc {Q : List (Nat × Value)} (h : Q ≠ []) : ∃ Q' a v, Q = Q' ++ [(a, v)] := ⟨Q.dropLast, (Q.getLast h).1, (Q.getLast h).2, (List.dropLast_concat_getLast h).symm⟩
end
