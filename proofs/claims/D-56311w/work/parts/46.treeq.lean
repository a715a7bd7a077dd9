/-! a map as a tree: what a lookup, an insertion and a walk through it need (no program here) -/
set_option maxRecDepth 100000
/-- the address of the first of a list -/
def hdV (L : List c_N) : Value := match L with
  | [] => .null
  | z :: _ => .ref z.1
theorem hdV_app {L M : List c_N} (h : L ≠ []) : hdV (L ++ M) = hdV L := by
  cases L with
  | nil => exact absurd rfl h
  | cons z L => rfl
theorem hdV_vr {L : List c_N} : hdV L = .null ∨ ∃ a, hdV L = .ref a := by
  cases L with
  | nil => exact Or.inl rfl
  | cons z L => exact Or.inr ⟨_, rfl⟩
/-- a map at mp: its nodes in order -/
def tm (K : g_K) (mp : Nat) (L : List c_N) (mc : Int32) (nk : Value) (h : g_P) : Prop :=
  (∃ t, h mp = some (trM t (.int (nI L.length)) (.int mc) nk) ∧ sg h L t .null ∧ rbB h t) ∧ (L.map Prod.fst).Nodup ∧ (∀ z ∈ L, z.1 ≠ mp) ∧ ∀ z ∈ L, k_b K ≤ z.1
theorem tm.keep {K : g_K} {mp : Nat} {L : List c_N} {mc : Int32} {nk : Value} {h h' : g_P} (T : tm K mp L mc nk h) (e : h' mp = h mp) (f : ∀ z ∈ L, h' z.1 = h z.1) : tm K mp L mc nk h' := by
  obtain ⟨⟨t, e1, s, b⟩, T2⟩ := T
  refine ⟨⟨t, e.trans e1, s.keep f, fun x kk v l r q c e2 e3 => ?_⟩, T2⟩
  subst e2
  obtain ⟨k2, v2, l2, r2, c2, A, B, rfl, e4, -⟩ := s.mem
  rw [f (x, k2, v2) (by simp)] at e3
  exact b _ _ _ _ _ _ _ rfl e3
/-- how two keys' numbers lie -/
def cmpS (r : Int32) (a b : Int) : Prop := (r = -1 ∧ a < b) ∨ (r = nI 0 ∧ a = b) ∨ (r = nI 1 ∧ b < a)
section
variable {h h' : g_P}
theorem nd_eq {A A' B B' : List c_N} {a : Nat} {kk v kk' v' : Value} (e : A ++ (a, kk, v) :: B = A' ++ (a, kk', v') :: B') (n : ((A ++ (a, kk, v) :: B).map Prod.fst).Nodup) : A = A' ∧ kk = kk' ∧ v = v' ∧ B = B' := by
  have f := nd_ne n
  rcases List.append_eq_append_iff.mp e with ⟨Y, rfl, e2⟩ | ⟨Y, rfl, e2⟩
  · cases Y with
    | nil => simp at e2; simp [e2]
    | cons y Y =>
      simp only [List.cons_append, List.cons.injEq] at e2
      obtain ⟨rfl, rfl⟩ := e2
      exact absurd rfl (f (a, kk', v') (by simp))
  · cases Y with
    | nil => simp at e2; simp [e2]
    | cons y Y =>
      simp only [List.cons_append, List.cons.injEq] at e2
      obtain ⟨rfl, rfl⟩ := e2
      exact absurd rfl (f (a, kk', v') (by simp))
/-- a node's value replaced -/
theorem sg.val {L1 L2 : List c_N} {t : Value} {a : Nat} {kk v w : Value} (s : sg h (L1 ++ (a, kk, v) :: L2) t .null) (n : ((L1 ++ (a, kk, v) :: L2).map Prod.fst).Nodup) {l r q : Value} {c : Bool} (e : h a = some (nC kk v l r q c)) : sg (g_up h a (nC kk w l r q c)) (L1 ++ (a, kk, w) :: L2) t .null := by
  obtain ⟨j, A1, A2, B1, B2, l', r', q', c', rfl, rfl, e1, s1, s2, c1⟩ := s.foc rfl (k := 0) (A := []) (B := []) (t := t) ⟨rfl, rfl, rfl, rfl⟩
  obtain ⟨-, -, rfl, rfl, rfl, ec⟩ := nC_inj2 (e.symm.trans e1)
  have f := nd_ne n
  have c2 : ctx (g_up h a (nC kk w l r q c)) j A1 B2 (.ref a) q t := by
    have := c1.up (a := a) (c := nC kk w l r q c) fun z hz => f z (by simp only [List.nil_append, List.append_nil, List.mem_append] at hz; rcases hz with hz | hz <;> simp [hz])
    simpa using this
  have s3 := c2.plug (sg.node g_us (s1.up fun z hz => f z (by simp [hz])) (s2.up fun z hz => f z (by simp [hz])))
  simpa using s3
theorem rbB.val {t : Value} {a : Nat} {kk v w l r q : Value} {c : Bool} (b : rbB h t) (e : h a = some (nC kk v l r q c)) : rbB (g_up h a (nC kk w l r q c)) t := by
  intro x kk' v' l' r' q' c' e1 e2
  subst e1
  by_cases z : x = a
  · subst z
    rw [g_us] at e2
    have := b _ _ _ _ _ _ _ rfl e
    subst this
    exact col_t e2
  · rw [g_un z] at e2
    exact b _ _ _ _ _ _ _ rfl e2
/-- a new node hung below p -/
theorem hang {s : Bool} {j : Nat} {A B U : List c_N} {t : Value} {p n : Nat} {kp vp o q kx vx : Value} {c : Bool} (hn : ∀ z ∈ A ++ (U ++ B), z.1 ≠ n) (pn : p ≠ n) (np : ∀ z ∈ A ++ (U ++ B), z.1 ≠ p) (cc : ctx h j A B (.ref p) q t) (so : sg h U o (.ref p)) (e : h' = g_up (g_up h n (nC kx vx .null .null (.ref p) true)) p (trS s kp vp (.ref n) o q c)) :
    ctx h' (j + 1) (if s then A ++ (U ++ [(p, kp, vp)]) else A) (if s then B else (p, kp, vp) :: (U ++ B)) (.ref n) (.ref p) t ∧ h' n = some (nC kx vx .null .null (.ref p) true) := by
  subst e
  refine ⟨⟨p, kp, vp, o, q, c, A, B, U, rfl, (so.up fun z hz => hn z (by simp [hz])).up fun z hz => np z (by simp [hz]), ?_, (cc.up fun z hz => hn z ?_).up fun z hz => np z ?_⟩, by rw [g_un (Ne.symm pn), g_us]⟩
  · cases s
    · exact Or.inl ⟨g_us, rfl, rfl⟩
    · exact Or.inr ⟨g_us, rfl, rfl⟩
  · rcases List.mem_append.mp hz with q | q <;> simp [q]
  · rcases List.mem_append.mp hz with q | q <;> simp [q]
/-- the place of a key among sorted ones is one -/
theorem place {A B L1 L2 : List c_N} {f : c_N → Int} {z : Int} (e : A ++ B = L1 ++ L2) (a1 : ∀ x ∈ A, f x < z) (b1 : ∀ x ∈ B, z < f x) (a2 : ∀ x ∈ L1, f x < z) (b2 : ∀ x ∈ L2, z < f x) : A = L1 ∧ B = L2 := by
  rcases List.append_eq_append_iff.mp e with ⟨Y, rfl, e2⟩ | ⟨Y, rfl, e2⟩
  · cases Y with
    | nil => simp at e2; simp [e2]
    | cons y Y =>
      have h1 := a2 y (by simp)
      have h2 := b1 y (by rw [e2]; simp)
      omega
  · cases Y with
    | nil => simp at e2; simp [e2]
    | cons y Y =>
      have h1 := a1 y (by simp)
      have h2 := b2 y (by rw [e2]; simp)
      omega
theorem aft {P R L1 L2 : List c_N} {y : c_N} (e : P ++ y :: R = L1 ++ L2) (hy : y ∉ L1) : ∀ z ∈ y :: R, z ∈ L2 := by
  intro z hz
  rcases List.append_eq_append_iff.mp e with ⟨Y, rfl, e2⟩ | ⟨Y, rfl, e2⟩
  · cases Y with
    | nil => simp only [List.nil_append] at e2; rw [← e2]; exact hz
    | cons w Y =>
      simp only [List.cons_append, List.cons.injEq] at e2
      obtain ⟨rfl, -⟩ := e2
      exact absurd (by simp) hy
  · rw [e2]; exact List.mem_append_right _ hz
theorem bef {P R L1 L2 : List c_N} {y : c_N} (e : P ++ y :: R = L1 ++ L2) (hy : y ∉ L2) : ∀ z ∈ P ++ [y], z ∈ L1 := by
  intro z hz
  rcases List.append_eq_append_iff.mp e with ⟨Y, rfl, e2⟩ | ⟨Y, rfl, e2⟩
  · cases Y with
    | nil => simp only [List.nil_append] at e2; exact absurd (by rw [← e2]; simp) hy
    | cons w Y =>
      simp only [List.cons_append, List.cons.injEq] at e2
      obtain ⟨rfl, -⟩ := e2
      rcases List.mem_append.mp hz with q | q
      · simp [q]
      · simp only [List.mem_singleton] at q; simp [q]
  · exact absurd (by rw [e2]; simp) hy
end
