/-! what a rotation and a change of colours leave (no program here) -/
set_option maxRecDepth 100000
/-- a map's cell -/
abbrev trM (t sz mc nk : Value) : g_C := g_ob 17 [.null, .null, .null, t, sz, mc, .null, nk, .null]
/-- a node seen from one side: s false: near is left -/
abbrev trS (s : Bool) (k v near far p : Value) (c : Bool) : g_C := if s then nC k v far near p c else nC k v near far p c
def ls2 (s : Bool) (near : List c_N) (x : c_N) (far : List c_N) : List c_N := if s then far ++ x :: near else near ++ x :: far
theorem nC_inj {k v l r p k' v' l' r' p' : Value} {c c' : Bool} (e : nC k v l r p c = nC k' v' l' r' p' c') : k = k' ∧ v = v' ∧ l = l' ∧ r = r' ∧ p = p' := by
  simp [nC, g_ob] at e
  exact ⟨e.1, e.2.1, e.2.2.1, e.2.2.2.1, e.2.2.2.2.1⟩
theorem trne {s : Bool} {k v l r p t sz mc nk : Value} {c : Bool} (e : some (trS s k v l r p c) = some (trM t sz mc nk)) : False := by
  cases s <;> simp [trS, trM, nC, g_ob] at e
/-- at p its far child y was turned up: s false: to the left -/
def rot (s : Bool) (h h' : g_P) (mp : Nat) (sz mc nk : Value) (p y : Nat) (kk v l : Value) (c : Bool) (ky vy yl yr : Value) (cy : Bool) (q : Value) : Prop :=
  h' p = some (trS s kk v l yl (.ref y) c) ∧ h' y = some (trS s ky vy (.ref p) yr q cy) ∧
  (∀ (b : Nat) (kb vb lb rb : Value) (cb : Bool), yl = .ref b → h b = some (nC kb vb lb rb (.ref y) cb) → h' b = some (nC kb vb lb rb (.ref p) cb)) ∧
  (q = .null → h' mp = some (trM (.ref y) sz mc nk)) ∧
  (∀ (a : Nat) (ka va o qa : Value) (ca : Bool), q = .ref a → (h a = some (nC ka va (.ref p) o qa ca) → h' a = some (nC ka va (.ref y) o qa ca)) ∧ (o ≠ .ref p → h a = some (nC ka va o (.ref p) qa ca) → h' a = some (nC ka va o (.ref y) qa ca))) ∧
  ∀ z : Nat, z ≠ p → z ≠ y → yl ≠ .ref z → q ≠ .ref z → (q = .null → z ≠ mp) → h' z = h z
section
variable {h h' : g_P}
theorem sg.nodeS {A B : List c_N} {a : Nat} {kk v l r p : Value} {c s : Bool} (e : h a = some (trS s kk v l r p c)) (s1 : sg h A l (.ref a)) (s2 : sg h B r (.ref a)) : sg h (ls2 s A (a, kk, v) B) (.ref a) p := by
  cases s
  · exact sg.node e s1 s2
  · exact sg.node e s2 s1
theorem mem_ls2 {s : Bool} {A B : List c_N} {x z : c_N} : z ∈ ls2 s A x B ↔ z = x ∨ z ∈ A ∨ z ∈ B := by
  cases s <;> simp [ls2] <;> exact ⟨fun h => by rcases h with h | h | h <;> simp [h], fun h => by rcases h with h | h | h <;> simp [h]⟩
theorem ctx.rot {k : Nat} {A B : List c_N} {q t : Value} {p y : Nat} (c : ctx h k A B (.ref p) q t) (np : ∀ z ∈ A ++ B, z.1 ≠ p) (nd : ((A ++ B).map Prod.fst).Nodup)
    (f1 : ∀ (a : Nat) (ka va o qa : Value) (ca : Bool), q = .ref a → (h a = some (nC ka va (.ref p) o qa ca) → h' a = some (nC ka va (.ref y) o qa ca)) ∧ (o ≠ .ref p → h a = some (nC ka va o (.ref p) qa ca) → h' a = some (nC ka va o (.ref y) qa ca)))
    (f2 : ∀ z ∈ A ++ B, q ≠ .ref z.1 → h' z.1 = h z.1) : ∃ t', ctx h' k A B (.ref y) q t' ∧ (q = .null → t' = .ref y) ∧ (q ≠ .null → t' = t) := by
  cases k with
  | zero =>
    obtain ⟨rfl, rfl, rfl, rfl⟩ := c
    exact ⟨.ref y, ⟨rfl, rfl, rfl, rfl⟩, fun _ => rfl, fun z => absurd rfl z⟩
  | succ k =>
    obtain ⟨a, kk, v, o, q, c, A', B', O, rfl, so, e, c2⟩ := c
    refine ⟨t, ?_, fun z => (by cases z), fun _ => rfl⟩
    rcases e with ⟨e, rfl, rfl⟩ | ⟨e, rfl, rfl⟩
    · have ne : ∀ z ∈ A ++ (O ++ B'), z.1 ≠ a := fun z hz => nd_ne (A := A) (B := O ++ B') nd z hz
      have f3 : ∀ z ∈ A ++ (O ++ B'), h' z.1 = h z.1 := fun z hz => f2 z (by
        rcases List.mem_append.mp hz with q | q
        · simp [q]
        · rcases List.mem_append.mp q with q | q <;> simp [q]) (fun e9 => by cases e9; exact ne z hz rfl)
      exact ⟨a, kk, v, o, q, c, A, B', O, rfl, so.keep (fun z hz => f3 z (by simp [hz])), Or.inl ⟨(f1 a kk v o q c rfl).1 e, rfl, rfl⟩, c2.keep (fun z hz => f3 z (by rcases List.mem_append.mp hz with q | q <;> simp [q]))⟩
    · have ne : ∀ z ∈ (A' ++ O) ++ B, z.1 ≠ a := fun z hz => nd_ne (A := A' ++ O) (B := B) (kk := kk) (v := v) (by simpa using nd) z hz
      have f3 : ∀ z ∈ (A' ++ O) ++ B, h' z.1 = h z.1 := fun z hz => f2 z (by
        rcases List.mem_append.mp hz with q | q
        · rcases List.mem_append.mp q with q | q <;> simp [q]
        · simp [q]) (fun e9 => by cases e9; exact ne z hz rfl)
      have ho : o ≠ .ref p := fun e9 => by
        subst e9
        obtain ⟨kk, v, l, r, c, A, B, rfl, -⟩ := so.mem
        exact np (p, kk, v) (by simp) rfl
      exact ⟨a, kk, v, o, q, c, A', B, O, rfl, so.keep (fun z hz => f3 z (by simp [hz])), Or.inr ⟨(f1 a kk v o q c rfl).2 ho e, rfl, rfl⟩, c2.keep (fun z hz => f3 z (by rcases List.mem_append.mp hz with q | q <;> simp [q]))⟩
/-- a subtree whose root's parent is turned -/
theorem sg.turn {L : List c_N} {x : Value} {p p' : Nat} (s : sg h L x (.ref p)) (nd : (L.map Prod.fst).Nodup) (f1 : ∀ (b : Nat) (kb vb lb rb : Value) (cb : Bool), x = .ref b → h b = some (nC kb vb lb rb (.ref p) cb) → h' b = some (nC kb vb lb rb (.ref p') cb)) (f2 : ∀ z ∈ L, x ≠ .ref z.1 → h' z.1 = h z.1) : sg h' L x (.ref p') := by
  rcases s.cases with ⟨rfl, rfl⟩ | ⟨A, B, a, kk, v, l, r, c, rfl, rfl, e, s1, s2⟩
  · exact sg.nil
  · have ne := nd_ne nd
    exact sg.node (f1 a kk v l r c rfl e) (s1.keep fun z hz => f2 z (by simp [hz]) (fun e9 => by cases e9; exact ne z (by simp [hz]) rfl)) (s2.keep fun z hz => f2 z (by simp [hz]) (fun e9 => by cases e9; exact ne z (by simp [hz]) rfl))

/-- one level of a context, from its hole's side -/
theorem ctx.one {k : Nat} {A B : List c_N} {x q t : Value} (c : ctx h (k + 1) A B x q t) : ∃ (s : Bool) (a : Nat) (kk v o q' : Value) (cc : Bool) (A' B' O : List c_N), q = .ref a ∧ sg h O o (.ref a) ∧ h a = some (trS s kk v x o q' cc) ∧ ctx h k A' B' (.ref a) q' t ∧ ∀ L, A ++ (L ++ B) = A' ++ (ls2 s L (a, kk, v) O ++ B') := by
  obtain ⟨a, kk, v, o, q, c, A', B', O, rfl, so, ⟨e, rfl, rfl⟩ | ⟨e, rfl, rfl⟩, c2⟩ := c
  · exact ⟨false, a, kk, v, o, q, c, A, B', O, rfl, so, e, c2, fun L => by simp [ls2]⟩
  · exact ⟨true, a, kk, v, o, q, c, A', B, O, rfl, so, e, c2, fun L => by simp [ls2]⟩
theorem nd_mid {A M B : List c_N} (n : ((A ++ (M ++ B)).map Prod.fst).Nodup) : (M.map Prod.fst).Nodup ∧ ((A ++ B).map Prod.fst).Nodup ∧ ∀ z ∈ A ++ B, ∀ w ∈ M, z.1 ≠ w.1 := by
  simp only [List.map_append, List.nodup_append, List.mem_append, List.mem_map] at n ⊢
  obtain ⟨n1, ⟨n2, n3, n4⟩, n5⟩ := n
  refine ⟨n2, ⟨n1, n3, fun a ha b hb => n5 a ha b (Or.inr hb)⟩, ?_⟩
  rintro z (hz | hz) w hw e
  · exact n5 _ ⟨z, hz, rfl⟩ _ (Or.inl ⟨w, hw, rfl⟩) e
  · exact n4 _ ⟨w, hw, rfl⟩ _ ⟨z, hz, rfl⟩ e.symm
theorem nd_ls2 {s : Bool} {A B : List c_N} {x : c_N} (n : ((ls2 s A x B).map Prod.fst).Nodup) : (A.map Prod.fst).Nodup ∧ (B.map Prod.fst).Nodup ∧ (∀ z ∈ A, z.1 ≠ x.1) ∧ (∀ z ∈ B, z.1 ≠ x.1) ∧ ∀ z ∈ A, ∀ w ∈ B, z.1 ≠ w.1 := by
  cases s
  all_goals
    simp only [ls2, if_true, if_false, Bool.false_eq_true, List.map_append, List.map_cons, List.nodup_append, List.nodup_cons, List.mem_cons, List.mem_map] at n
    obtain ⟨n1, ⟨n2, n3⟩, n4⟩ := n
  · exact ⟨n1, n3, fun z hz => n4 _ ⟨z, hz, rfl⟩ _ (Or.inl rfl), fun z hz e => n2 ⟨z, hz, e⟩, fun z hz w hw => n4 _ ⟨z, hz, rfl⟩ _ (Or.inr ⟨w, hw, rfl⟩)⟩
  · exact ⟨n3, n1, fun z hz e => n2 ⟨z, hz, e⟩, fun z hz => n4 _ ⟨z, hz, rfl⟩ _ (Or.inl rfl), fun z hz w hw e => n4 _ ⟨w, hw, rfl⟩ _ (Or.inr ⟨z, hz, rfl⟩) e.symm⟩
/-- x under p under g, on one side -/
def oS (s : Bool) (h : g_P) (k : Nat) (A B : List c_N) (t : Value) (g : Nat) (kg vg qg : Value) (cg : Bool) (o : Value) (O : List c_N) (p : Nat) (kp vp : Value) (cp : Bool) (w : Value) (Wl : List c_N) (x : Nat) (kx vx xn xf : Value) (Xn Xf : List c_N) : Prop :=
  ctx h k A B (.ref g) qg t ∧ h g = some (trS s kg vg (.ref p) o qg cg) ∧ sg h O o (.ref g) ∧ h p = some (trS s kp vp (.ref x) w (.ref g) cp) ∧ sg h Wl w (.ref p) ∧ h x = some (trS s kx vx xn xf (.ref p) false) ∧ sg h Xn xn (.ref x) ∧ sg h Xf xf (.ref x)
theorem iS_oS {s : Bool} {k : Nat} {A B O Wl Xn Xf : List c_N} {t : Value} {mp g p x : Nat} {sz mc nk kg vg qg o kp vp w kx vx xn xf : Value} {cg : Bool} (c : ctx h k A B (.ref g) qg t) (eg : h g = some (trS s kg vg (.ref p) o qg cg)) (so : sg h O o (.ref g)) (sw : sg h Wl w (.ref p)) (s1 : sg h Xn xn (.ref x)) (s2 : sg h Xf xf (.ref x))
    (nd : ((A ++ (ls2 s (ls2 s Wl (p, kp, vp) (ls2 s Xn (x, kx, vx) Xf)) (g, kg, vg) O ++ B)).map Prod.fst).Nodup) (r : rot s h h' mp sz mc nk p x kp vp w false kx vx xn xf false (.ref g)) : oS s h' k A B t g kg vg qg cg o O x kx vx false xf Xf p kp vp w xn Wl Xn := by
  obtain ⟨nm, -, nab⟩ := nd_mid nd
  obtain ⟨n1, n2, n3, n4, n5⟩ := nd_ls2 nm
  obtain ⟨m1, m2, m3, m4, m5⟩ := nd_ls2 n1
  obtain ⟨l1, l2, l3, l4, l5⟩ := nd_ls2 m2
  have gp : p ≠ g := n3 (p, kp, vp) (mem_ls2.mpr (Or.inl rfl))
  have gx : x ≠ g := n3 (x, kx, vx) (mem_ls2.mpr (Or.inr (Or.inr (mem_ls2.mpr (Or.inl rfl)))))
  have px : x ≠ p := m4 (x, kx, vx) (mem_ls2.mpr (Or.inl rfl))
  obtain ⟨r1, r2, r3, -, r5, r6⟩ := r
  have xne : ∀ z : c_N, (∀ w ∈ Xn, w.1 ≠ z.1) → xn ≠ .ref z.1 := fun z hz e => by
    subst e
    obtain ⟨kk, v, l, r, c, A, B, rfl, -⟩ := s1.mem
    exact hz (z.1, kk, v) (by simp) rfl
  have keep : ∀ z : c_N, z.1 ≠ p → z.1 ≠ x → z.1 ≠ g → (∀ w ∈ Xn, w.1 ≠ z.1) → h' z.1 = h z.1 := fun z z1 z2 z3 z4 => r6 z.1 z1 z2 (xne z z4) (fun e => by cases e; exact z3 rfl) (fun e => by cases e)
  have mx : ∀ z ∈ Xn, z ∈ ls2 s Wl (p, kp, vp) (ls2 s Xn (x, kx, vx) Xf) := fun z hz => mem_ls2.mpr (Or.inr (Or.inr (mem_ls2.mpr (Or.inr (Or.inl hz)))))
  have eg' : h' g = some (trS s kg vg (.ref x) o qg cg) := by
    cases s
    · exact (r5 g kg vg o qg cg rfl).1 eg
    · refine (r5 g kg vg o qg cg rfl).2 (fun e => ?_) eg
      subst e
      obtain ⟨kk, v, l, r, c, A, B, rfl, -⟩ := so.mem
      exact n5 (p, kp, vp) (mem_ls2.mpr (Or.inl rfl)) (p, kk, v) (by simp) rfl
  refine ⟨c.keep fun z hz => keep z (nab z hz (p, kp, vp) (mem_ls2.mpr (Or.inr (Or.inl (mem_ls2.mpr (Or.inl rfl)))))) (nab z hz (x, kx, vx) (mem_ls2.mpr (Or.inr (Or.inl (mem_ls2.mpr (Or.inr (Or.inr (mem_ls2.mpr (Or.inl rfl)))))))) ) (nab z hz (g, kg, vg) (mem_ls2.mpr (Or.inl rfl))) (fun w hw e => nab z hz w (mem_ls2.mpr (Or.inr (Or.inl (mx w hw)))) e.symm),
    eg', so.keep fun z hz => keep z (fun e => n5 (p, kp, vp) (mem_ls2.mpr (Or.inl rfl)) z hz e.symm) (fun e => n5 (x, kx, vx) (mem_ls2.mpr (Or.inr (Or.inr (mem_ls2.mpr (Or.inl rfl))))) z hz e.symm) (n4 z hz) (fun w hw => n5 w (mx w hw) z hz),
    r2, ?_, r1, ?_, ?_⟩
  · exact s2.keep fun z hz => keep z (m4 z (mem_ls2.mpr (Or.inr (Or.inr hz)))) (l4 z hz) (n3 z (mem_ls2.mpr (Or.inr (Or.inr (mem_ls2.mpr (Or.inr (Or.inr hz))))))) (fun w hw => l5 w hw z hz)
  · exact sw.keep fun z hz => keep z (m3 z hz) (m5 z hz (x, kx, vx) (mem_ls2.mpr (Or.inl rfl))) (n3 z (mem_ls2.mpr (Or.inr (Or.inl hz)))) (fun w hw e => m5 z hz w (mem_ls2.mpr (Or.inr (Or.inl hw))) e.symm)
  · refine s1.turn l1 r3 fun z hz e9 => r6 z.1 (m4 z (mem_ls2.mpr (Or.inr (Or.inl hz)))) (l3 z hz) e9 (fun e => by cases e; exact n3 z (mx z hz) rfl) (fun e => by cases e)
/-- turned and coloured: the tree is whole, and x's parent is black -/
theorem oS.fin {s : Bool} {k : Nat} {A B O Wl Xn Xf : List c_N} {t : Value} {mp g p x : Nat} {sz mc nk kg vg qg o kp vp w kx vx xn xf : Value} {cg cp : Bool} (st : oS s h k A B t g kg vg qg cg o O p kp vp cp w Wl x kx vx xn xf Xn Xf)
    (nd : ((A ++ (ls2 s (ls2 s (ls2 s Xn (x, kx, vx) Xf) (p, kp, vp) Wl) (g, kg, vg) O ++ B)).map Prod.fst).Nodup) (nmp : ∀ z ∈ A ++ (ls2 s (ls2 s (ls2 s Xn (x, kx, vx) Xf) (p, kp, vp) Wl) (g, kg, vg) O ++ B), z.1 ≠ mp) (r : rot (!s) (g_up (g_up h p (trS s kp vp (.ref x) w (.ref g) true)) g (trS s kg vg (.ref p) o qg false)) h' mp sz mc nk g p kg vg o false kp vp w (.ref x) true qg) :
    ∃ t', ctx h' k A B (.ref p) qg t' ∧ sg h' (ls2 s (ls2 s (ls2 s Xn (x, kx, vx) Xf) (p, kp, vp) Wl) (g, kg, vg) O) (.ref p) qg ∧ (qg = .null → t' = .ref p) ∧ (qg ≠ .null → t' = t) ∧ h' x = some (trS s kx vx xn xf (.ref p) false) ∧ h' p = some (trS s kp vp (.ref x) (.ref g) qg true) := by
  obtain ⟨nm, nab2, nab⟩ := nd_mid nd
  obtain ⟨n1, n2, n3, n4, n5⟩ := nd_ls2 nm
  obtain ⟨m1, m2, m3, m4, m5⟩ := nd_ls2 n1
  obtain ⟨l1, l2, l3, l4, l5⟩ := nd_ls2 m1
  obtain ⟨c, eg, so, ep, sw, ex, s1, s2⟩ := st
  have gp : p ≠ g := n3 (p, kp, vp) (mem_ls2.mpr (Or.inl rfl))
  have hx0 : (x, kx, vx) ∈ ls2 s (ls2 s Xn (x, kx, vx) Xf) (p, kp, vp) Wl := mem_ls2.mpr (Or.inr (Or.inl (mem_ls2.mpr (Or.inl rfl))))
  have gx : x ≠ g := n3 (x, kx, vx) hx0
  have px : x ≠ p := m3 (x, kx, vx) (mem_ls2.mpr (Or.inl rfl))
  generalize eh : g_up (g_up h p (trS s kp vp (.ref x) w (.ref g) true)) g (trS s kg vg (.ref p) o qg false) = h1 at r
  have k1 : ∀ z : Nat, z ≠ p → z ≠ g → h1 z = h z := fun z z1 z2 => by rw [← eh, g_un z2, g_un z1]
  obtain ⟨r1, r2, r3, r4, r5, r6⟩ := r
  have mw : ∀ z ∈ Wl, z ∈ ls2 s (ls2 s Xn (x, kx, vx) Xf) (p, kp, vp) Wl := fun z hz => mem_ls2.mpr (Or.inr (Or.inr hz))
  have wne : ∀ z : c_N, (∀ y ∈ Wl, y.1 ≠ z.1) → w ≠ .ref z.1 := fun z hz e => by
    subst e
    obtain ⟨kk, v, l, r, c, A, B, rfl, -⟩ := sw.mem
    exact hz (z.1, kk, v) (by simp) rfl
  have sw1 : sg h1 Wl w (.ref p) := sw.keep fun z hz => k1 z.1 (m4 z hz) (n3 z (mw z hz))
  have so1 : sg h1 O o (.ref g) := so.keep fun z hz => k1 z.1 (fun e => n5 (p, kp, vp) (mem_ls2.mpr (Or.inl rfl)) z hz e.symm) (n4 z hz)
  have c1 : ctx h1 k A B (.ref g) qg t := c.keep fun z hz => k1 z.1 (nab z hz (p, kp, vp) (mem_ls2.mpr (Or.inr (Or.inl (mem_ls2.mpr (Or.inl rfl)))))) (nab z hz (g, kg, vg) (mem_ls2.mpr (Or.inl rfl)))
  have qne : ∀ z : c_N, (∀ y ∈ A ++ B, y.1 ≠ z.1) → qg ≠ .ref z.1 := fun z hz e => by
    subst e
    cases k with
    | zero => obtain ⟨-, -, e, -⟩ := c; cases e
    | succ k =>
      obtain ⟨a, kk, v, o, q, c, A', B', O, e0, -, ⟨-, rfl, rfl⟩ | ⟨-, rfl, rfl⟩, -⟩ := c
      · cases e0; exact hz (z.1, kk, v) (by simp) rfl
      · cases e0; exact hz (z.1, kk, v) (by simp) rfl
  have keep : ∀ z : c_N, z ∈ A ++ (ls2 s (ls2 s (ls2 s Xn (x, kx, vx) Xf) (p, kp, vp) Wl) (g, kg, vg) O ++ B) → z.1 ≠ g → z.1 ≠ p → w ≠ .ref z.1 → qg ≠ .ref z.1 → h' z.1 = h1 z.1 := fun z hz z1 z2 z3 z4 => r6 z.1 z1 z2 z3 z4 (fun _ => nmp z hz)
  have inm : ∀ z : c_N, z ∈ ls2 s (ls2 s (ls2 s Xn (x, kx, vx) Xf) (p, kp, vp) Wl) (g, kg, vg) O → z ∈ A ++ (ls2 s (ls2 s (ls2 s Xn (x, kx, vx) Xf) (p, kp, vp) Wl) (g, kg, vg) O ++ B) := fun z hz => by simp [hz]
  have inp : ∀ z : c_N, z ∈ ls2 s (ls2 s Xn (x, kx, vx) Xf) (p, kp, vp) Wl → z ∈ ls2 s (ls2 s (ls2 s Xn (x, kx, vx) Xf) (p, kp, vp) Wl) (g, kg, vg) O := fun z hz => mem_ls2.mpr (Or.inr (Or.inl hz))
  have inx : ∀ z : c_N, z ∈ ls2 s Xn (x, kx, vx) Xf → z ∈ ls2 s (ls2 s Xn (x, kx, vx) Xf) (p, kp, vp) Wl := fun z hz => mem_ls2.mpr (Or.inr (Or.inl hz))
  have qn : ∀ z : c_N, z ∈ ls2 s (ls2 s (ls2 s Xn (x, kx, vx) Xf) (p, kp, vp) Wl) (g, kg, vg) O → qg ≠ .ref z.1 := fun z hz => qne z fun y hy => nab y hy z hz
  obtain ⟨t', ct, ct1, ct2⟩ := c1.rot (h' := h') (y := p) (fun z hz => nab z hz (g, kg, vg) (mem_ls2.mpr (Or.inl rfl))) nab2 r5 (fun z hz q9 => keep z (by rcases List.mem_append.mp hz with q | q <;> simp [q]) (nab z hz (g, kg, vg) (mem_ls2.mpr (Or.inl rfl))) (nab z hz (p, kp, vp) (mem_ls2.mpr (Or.inr (Or.inl (mem_ls2.mpr (Or.inl rfl)))))) (wne z (fun y hy e => nab z hz y (mem_ls2.mpr (Or.inr (Or.inl (mw y hy)))) e.symm)) q9)
  have kx' : ∀ z ∈ ls2 s Xn (x, kx, vx) Xf, h' z.1 = h z.1 := fun z hz => by
    have z1 : z.1 ≠ g := n3 z (inx z hz)
    have z2 : z.1 ≠ p := m3 z hz
    rw [keep z (inm z (inp z (inx z hz))) z1 z2 (wne z fun y hy e => m5 z hz y hy e.symm) (qn z (inp z (inx z hz))), k1 z.1 z2 z1]
  have ex' : h' x = some (trS s kx vx xn xf (.ref p) false) := (kx' (x, kx, vx) (mem_ls2.mpr (Or.inl rfl))).trans ex
  have sx' : sg h' (ls2 s Xn (x, kx, vx) Xf) (.ref x) (.ref p) := sg.nodeS ex' (s1.keep fun z hz => kx' z (mem_ls2.mpr (Or.inr (Or.inl hz)))) (s2.keep fun z hz => kx' z (mem_ls2.mpr (Or.inr (Or.inr hz))))
  have sO' : sg h' O o (.ref g) := so1.keep fun z hz => keep z (inm z (mem_ls2.mpr (Or.inr (Or.inr hz)))) (n4 z hz) (fun e => n5 (p, kp, vp) (mem_ls2.mpr (Or.inl rfl)) z hz e.symm) (wne z fun y hy => n5 y (mw y hy) z hz) (qn z (mem_ls2.mpr (Or.inr (Or.inr hz))))
  have sW' : sg h' Wl w (.ref g) := sw1.turn m2 r3 fun z hz e9 => keep z (inm z (inp z (mw z hz))) (n3 z (mw z hz)) (m4 z hz) e9 (qn z (inp z (mw z hz)))
  have ep' : h' p = some (trS s kp vp (.ref x) (.ref g) qg true) := by rw [r2]; cases s <;> rfl
  have eg' : h' g = some (trS s kg vg w o (.ref p) false) := by rw [r1]; cases s <;> rfl
  have sG' : sg h' (ls2 s Wl (g, kg, vg) O) (.ref g) (.ref p) := sg.nodeS eg' sW' sO'
  have sP' : sg h' (ls2 s (ls2 s Xn (x, kx, vx) Xf) (p, kp, vp) (ls2 s Wl (g, kg, vg) O)) (.ref p) qg := sg.nodeS ep' sx' sG'
  refine ⟨t', ct, ?_, ct1, ct2, ex', ep'⟩
  have el : ls2 s (ls2 s (ls2 s Xn (x, kx, vx) Xf) (p, kp, vp) Wl) (g, kg, vg) O = ls2 s (ls2 s Xn (x, kx, vx) Xf) (p, kp, vp) (ls2 s Wl (g, kg, vg) O) := by cases s <;> simp [ls2]
  rw [el]
  exact sP'
/-- p, its brother and g coloured: the red goes up to g -/
theorem recol {s : Bool} {k : Nat} {A B O Pl : List c_N} {t : Value} {g p u : Nat} {kg vg qg kp vp pl pr ku vu ul ur : Value} {cg cp cu : Bool} (c : ctx h k A B (.ref g) qg t) (eg : h g = some (trS s kg vg (.ref p) (.ref u) qg cg)) (so : sg h O (.ref u) (.ref g)) (eu : h u = some (nC ku vu ul ur (.ref g) cu)) (sp : sg h Pl (.ref p) (.ref g)) (ep : h p = some (nC kp vp pl pr (.ref g) cp))
    (nd : ((A ++ (ls2 s Pl (g, kg, vg) O ++ B)).map Prod.fst).Nodup) (e : h' = g_up (g_up (g_up h p (nC kp vp pl pr (.ref g) true)) u (nC ku vu ul ur (.ref g) true)) g (trS s kg vg (.ref p) (.ref u) qg false)) :
    ctx h' k A B (.ref g) qg t ∧ h' g = some (trS s kg vg (.ref p) (.ref u) qg false) ∧ sg h' Pl (.ref p) (.ref g) ∧ sg h' O (.ref u) (.ref g) ∧ ∀ z ∈ A ++ B, h' z.1 = h z.1 := by
  subst e
  obtain ⟨nm, -, nab⟩ := nd_mid nd
  obtain ⟨n1, n2, n3, n4, n5⟩ := nd_ls2 nm
  obtain ⟨kp2, vp2, pl2, pr2, cp2, P1, P2, eP, -⟩ := sp.mem
  obtain ⟨ku2, vu2, ul2, ur2, cu2, U1, U2, eU, -⟩ := so.mem
  have hp : (p, kp2, vp2) ∈ Pl := by rw [eP]; simp
  have hu : (u, ku2, vu2) ∈ O := by rw [eU]; simp
  have pg : p ≠ g := n3 _ hp
  have ug : u ≠ g := n4 _ hu
  have pu : p ≠ u := n5 _ hp _ hu
  have f : ∀ z ∈ A ++ B, g_up (g_up (g_up h p (nC kp vp pl pr (.ref g) true)) u (nC ku vu ul ur (.ref g) true)) g (trS s kg vg (.ref p) (.ref u) qg false) z.1 = h z.1 := fun z hz => by
    rw [g_un (nab z hz (g, kg, vg) (mem_ls2.mpr (Or.inl rfl))), g_un (nab z hz _ (mem_ls2.mpr (Or.inr (Or.inr hu)))), g_un (nab z hz _ (mem_ls2.mpr (Or.inr (Or.inl hp))))]
  refine ⟨c.keep f, g_us, ?_, ?_, f⟩
  · exact ((sp.par n1 ep true).up fun z hz => n5 z hz _ hu).up n3
  · have eu2 : (g_up h p (nC kp vp pl pr (.ref g) true)) u = some (nC ku vu ul ur (.ref g) cu) := by rw [g_un (Ne.symm pu)]; exact eu
    exact ((so.up (a := p) fun z hz e => n5 _ hp z hz e.symm).par n2 eu2 true).up n4
/-- the root made black -/
theorem sg.blk {L : List c_N} {a : Nat} {kk v l r p : Value} {c : Bool} (s : sg h L (.ref a) p) (n : (L.map Prod.fst).Nodup) (e : h a = some (nC kk v l r p c)) : sg (g_up h a (nC kk v l r p true)) L (.ref a) p := s.par n e true
/-- the root of a tree, if it isn't x, is black -/
def rbk (h : g_P) (t : Value) (x : Nat) : Prop := ∀ (b : Nat) (kk v l r q : Value) (c : Bool), t = .ref b → b ≠ x → h b = some (nC kk v l r q c) → c = true

theorem nC_inj2 {k v l r p k' v' l' r' p' : Value} {c c' : Bool} (e : some (nC k v l r p c) = some (nC k' v' l' r' p' c')) : k = k' ∧ v = v' ∧ l = l' ∧ r = r' ∧ p = p' ∧ (if c then nI 1 else nI 0) = (if c' then nI 1 else nI 0) := by
  have e := Option.some.inj e
  simp only [nC, g_ob, Sum.inr.injEq, Sum.inl.injEq, Prod.mk.injEq, List.cons.injEq, Value.int.injEq] at e
  exact ⟨e.2.1, e.2.2.1, e.2.2.2.1, e.2.2.2.2.1, e.2.2.2.2.2.1, e.2.2.2.2.2.2.1⟩
theorem nC_col {k v l r p : Value} {c c' : Bool} (e : (if c then nI 1 else nI 0) = (if c' then nI 1 else nI 0)) : nC k v l r p c = nC k v l r p c' := by
  unfold nC
  rw [e]
/-- a rotation out of what it wrote -/
theorem rot_of {s : Bool} {mp : Nat} {sz mc nk : Value} {p y : Nat} {kk v l : Value} {c : Bool} {ky vy yl yr : Value} {cy : Bool} {q : Value} (e1 : h' p = some (trS s kk v l yl (.ref y) c)) (e2 : h' y = some (trS s ky vy (.ref p) yr q cy))
    (fb : yl = .null ∨ ∃ (b : Nat) (kb vb lb rb : Value) (cb : Bool), yl = .ref b ∧ h b = some (nC kb vb lb rb (.ref y) cb) ∧ h' b = some (nC kb vb lb rb (.ref p) cb))
    (fq : (q = .null ∧ h' mp = some (trM (.ref y) sz mc nk)) ∨ ∃ (a : Nat) (s : Bool) (ka va o qa : Value) (ca : Bool), q = .ref a ∧ o ≠ .ref p ∧ h a = some (trS s ka va (.ref p) o qa ca) ∧ h' a = some (trS s ka va (.ref y) o qa ca))
    (f : ∀ z : Nat, z ≠ p → z ≠ y → yl ≠ .ref z → q ≠ .ref z → (q = .null → z ≠ mp) → h' z = h z) : rot s h h' mp sz mc nk p y kk v l c ky vy yl yr cy q := by
  refine ⟨e1, e2, fun b kb vb lb rb cb q1 q2 => ?_, fun q1 => ?_, fun a ka va o qa ca q1 => ?_, f⟩
  · rcases fb with e | ⟨b', kb', vb', lb', rb', cb', e, e3, e4⟩
    · rw [e] at q1; cases q1
    · rw [e] at q1; cases q1
      obtain ⟨rfl, rfl, rfl, rfl, -, ec⟩ := nC_inj2 (e3.symm.trans q2)
      rw [e4, nC_col ec]
  · rcases fq with ⟨-, e⟩ | ⟨a, s, ka, va, o, qa, ca, e, -⟩
    · exact e
    · rw [e] at q1; cases q1
  · rcases fq with ⟨e, -⟩ | ⟨a', s', ka', va', o', qa', ca', e, e0, e3, e4⟩
    · rw [e] at q1; cases q1
    · rw [e] at q1; cases q1
      cases s' with
      | false =>
        refine ⟨fun q2 => ?_, fun q3 q2 => ?_⟩
        · obtain ⟨rfl, rfl, -, rfl, rfl, ec⟩ := nC_inj2 (e3.symm.trans q2)
          exact e4.trans (congrArg some (nC_col ec))
        · obtain ⟨-, -, e9, -⟩ := nC_inj2 (e3.symm.trans q2)
          exact absurd e9.symm q3
      | true =>
        refine ⟨fun q2 => ?_, fun q3 q2 => ?_⟩
        · obtain ⟨-, -, e9, -⟩ := nC_inj2 (e3.symm.trans q2)
          exact absurd e9 e0
        · obtain ⟨rfl, rfl, rfl, -, rfl, ec⟩ := nC_inj2 (e3.symm.trans q2)
          exact e4.trans (congrArg some (nC_col ec))

theorem fq_of {k : Nat} {A B : List c_N} {g : Nat} {q t : Value} (c : ctx h k A B (.ref g) q t) (ng : ∀ z ∈ A ++ B, z.1 ≠ g) : (k = 0 ∧ q = .null) ∨ ∃ (e : Nat) (s : Bool) (ke ve o qe : Value) (ce : Bool), q = .ref e ∧ h e = some (trS s ke ve (.ref g) o qe ce) ∧ (e, ke, ve) ∈ A ++ B ∧ (o = .null ∨ ∃ z, o = .ref z ∧ z ≠ g) := by
  cases k with
  | zero => exact Or.inl ⟨rfl, c.2.2.1⟩
  | succ k =>
    obtain ⟨a, kk, v, o, q, cc, A', B', O, rfl, so, ⟨e, rfl, rfl⟩ | ⟨e, rfl, rfl⟩, -⟩ := c
    · refine Or.inr ⟨a, false, kk, v, o, q, cc, rfl, e, by simp, ?_⟩
      rcases so.vr with rfl | ⟨b, rfl⟩
      · exact Or.inl rfl
      · exact Or.inr ⟨b, rfl, so.ne fun z hz => ng z (by simp [hz])⟩
    · refine Or.inr ⟨a, true, kk, v, o, q, cc, rfl, e, by simp, ?_⟩
      rcases so.vr with rfl | ⟨b, rfl⟩
      · exact Or.inl rfl
      · exact Or.inr ⟨b, rfl, so.ne fun z hz => ng z (by simp [hz])⟩
theorem fb_of {W : List c_N} {w : Value} {p : Nat} (s : sg h W w (.ref p)) : w = .null ∨ ∃ (b : Nat) (kb vb lb rb : Value) (cb : Bool), w = .ref b ∧ h b = some (nC kb vb lb rb (.ref p) cb) ∧ (b, kb, vb) ∈ W := by
  rcases s.cases with ⟨-, e⟩ | ⟨A, B, a, kk, v, l, r, c, rfl, rfl, e, -⟩
  · exact Or.inl e
  · exact Or.inr ⟨a, kk, v, l, r, c, rfl, e, by simp⟩
/-- only the map and its nodes have changed -/
def fr (h h' : g_P) (mp : Nat) (N : List c_N) : Prop := ∀ z : Nat, z ≠ mp → (∀ w ∈ N, w.1 ≠ z) → h' z = h z
theorem fr.rf {mp : Nat} {N : List c_N} : fr h h mp N := fun _ _ _ => rfl
theorem fr.tr {h2 : g_P} {mp : Nat} {N : List c_N} (a : fr h h' mp N) (b : fr h' h2 mp N) : fr h h2 mp N := fun z z1 z2 => (b z z1 z2).trans (a z z1 z2)
theorem fr.up {mp a : Nat} {N : List c_N} {c : g_C} (f : fr h h' mp N) (w : ∃ w ∈ N, w.1 = a) : fr h (g_up h' a c) mp N := fun z z1 z2 => by
  obtain ⟨w, hw, rfl⟩ := w
  rw [g_un (Ne.symm (z2 w hw))]
  exact f z z1 z2
theorem rot.fr {s : Bool} {mp : Nat} {sz mc nk : Value} {p y : Nat} {kk v l : Value} {c : Bool} {ky vy yl yr : Value} {cy : Bool} {q : Value} {N : List c_N} (r : rot s h h' mp sz mc nk p y kk v l c ky vy yl yr cy q) (hp : ∃ w ∈ N, w.1 = p) (hy : ∃ w ∈ N, w.1 = y) (hb : yl = .null ∨ ∃ w ∈ N, yl = .ref w.1) (hq : q = .null ∨ ∃ w ∈ N, q = .ref w.1) : fr h h' mp N := fun z z1 z2 => by
  refine r.2.2.2.2.2 z (fun e => ?_) (fun e => ?_) (fun e => ?_) (fun e => ?_) fun _ => z1
  · obtain ⟨w, hw, e2⟩ := hp; exact z2 w hw (e2.trans e.symm)
  · obtain ⟨w, hw, e2⟩ := hy; exact z2 w hw (e2.trans e.symm)
  · rcases hb with e2 | ⟨w, hw, e2⟩
    · rw [e2] at e; cases e
    · rw [e2] at e; cases e; exact z2 w hw rfl
  · rcases hq with e2 | ⟨w, hw, e2⟩
    · rw [e2] at e; cases e
    · rw [e2] at e; cases e; exact z2 w hw rfl
theorem rot.mp {s : Bool} {mp : Nat} {sz mc nk : Value} {p y : Nat} {kk v l : Value} {c : Bool} {ky vy yl yr : Value} {cy : Bool} {q t t' : Value} {N : List c_N} (r : rot s h h' mp sz mc nk p y kk v l c ky vy yl yr cy q) (hp : ∃ w ∈ N, w.1 = p) (hy : ∃ w ∈ N, w.1 = y) (hb : yl = .null ∨ ∃ w ∈ N, yl = .ref w.1) (hq : q = .null ∨ ∃ w ∈ N, q = .ref w.1) (nmp : ∀ z ∈ N, z.1 ≠ mp) (hm : h mp = some (trM t sz mc nk)) (e1 : q = .null → t' = .ref y) (e2 : q ≠ .null → t' = t) : h' mp = some (trM t' sz mc nk) := by
  by_cases e : q = .null
  · rw [e1 e]
    exact r.2.2.2.1 e
  · rw [e2 e, ← hm]
    refine r.2.2.2.2.2 mp (fun e => ?_) (fun e => ?_) (fun e => ?_) (fun e => ?_) fun z => absurd z e
    · obtain ⟨w, hw, e2⟩ := hp; exact nmp w hw (e2.trans e.symm)
    · obtain ⟨w, hw, e2⟩ := hy; exact nmp w hw (e2.trans e.symm)
    · rcases hb with e2 | ⟨w, hw, e2⟩
      · rw [e2] at e; cases e
      · rw [e2] at e; cases e; exact nmp w hw rfl
    · rcases hq with e2 | ⟨w, hw, e2⟩
      · rw [e2] at e; cases e
      · rw [e2] at e; cases e; exact nmp w hw rfl
/-- the colours ahead of the last rotation -/
theorem oS.col {s : Bool} {k : Nat} {A B O Wl Xn Xf : List c_N} {t : Value} {g p x : Nat} {kg vg qg o kp vp w kx vx xn xf : Value} {cg cp : Bool} (st : oS s h k A B t g kg vg qg cg o O p kp vp cp w Wl x kx vx xn xf Xn Xf) (nd : ((A ++ (ls2 s (ls2 s (ls2 s Xn (x, kx, vx) Xf) (p, kp, vp) Wl) (g, kg, vg) O ++ B)).map Prod.fst).Nodup)
    (e : h' = g_up (g_up h p (trS s kp vp (.ref x) w (.ref g) true)) g (trS s kg vg (.ref p) o qg false)) : ctx h' k A B (.ref g) qg t ∧ sg h' Wl w (.ref p) ∧ h' x = some (trS s kx vx xn xf (.ref p) false) ∧ h' p = some (trS s kp vp (.ref x) w (.ref g) true) ∧ h' g = some (trS s kg vg (.ref p) o qg false) ∧ p ≠ g ∧ x ≠ p ∧ x ≠ g ∧ ∀ z ∈ A ++ B, z.1 ≠ g ∧ z.1 ≠ p := by
  subst e
  obtain ⟨nm, nab2, nab⟩ := nd_mid nd
  obtain ⟨n1, n2, n3, n4, n5⟩ := nd_ls2 nm
  obtain ⟨m1, m2, m3, m4, m5⟩ := nd_ls2 n1
  obtain ⟨c, eg, so, ep, sw, ex, s1, s2⟩ := st
  have gp : p ≠ g := n3 (p, kp, vp) (mem_ls2.mpr (Or.inl rfl))
  have hx0 : (x, kx, vx) ∈ ls2 s (ls2 s Xn (x, kx, vx) Xf) (p, kp, vp) Wl := mem_ls2.mpr (Or.inr (Or.inl (mem_ls2.mpr (Or.inl rfl))))
  have gx : x ≠ g := n3 (x, kx, vx) hx0
  have px : x ≠ p := m3 (x, kx, vx) (mem_ls2.mpr (Or.inl rfl))
  have za : ∀ z ∈ A ++ B, z.1 ≠ g ∧ z.1 ≠ p := fun z hz => ⟨nab z hz (g, kg, vg) (mem_ls2.mpr (Or.inl rfl)), nab z hz (p, kp, vp) (mem_ls2.mpr (Or.inr (Or.inl (mem_ls2.mpr (Or.inl rfl)))))⟩
  refine ⟨c.keep fun z hz => by rw [g_un (za z hz).1, g_un (za z hz).2], sw.keep fun z hz => by rw [g_un (n3 z (mem_ls2.mpr (Or.inr (Or.inr hz)))), g_un (m4 z hz)], by rw [g_un gx, g_un px]; exact ex, by rw [g_un gp, g_us], g_us, gp, px, gx, za⟩
theorem col_t {c : Bool} {k v l r p k' v' l' r' p' : Value} (e : some (nC k v l r p true) = some (nC k' v' l' r' p' c)) : c = true := by
  obtain ⟨-, -, -, -, -, e⟩ := nC_inj2 e
  cases c
  · exact absurd e (by decide)
  · rfl
/-- the root is black -/
def rbB (h : g_P) (t : Value) : Prop := ∀ (b : Nat) (kk v l r q : Value) (c : Bool), t = .ref b → h b = some (nC kk v l r q c) → c = true
end
