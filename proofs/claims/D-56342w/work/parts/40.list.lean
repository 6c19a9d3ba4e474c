set_option maxRecDepth 100000
/-! lists: capacity and the cost of growth as functions of the length -/
def capL (n : Nat) : Nat := if 1234 < n then 1851 else if 823 < n then 1234 else if 549 < n then 823 else if 366 < n then 549 else if 244 < n then 366 else if 163 < n then 244 else if 109 < n then 163 else if 73 < n then 109 else if 49 < n then 73 else if 33 < n then 49 else if 22 < n then 33 else if 15 < n then 22 else if 10 < n then 15 else if 0 < n then 10 else 0
def lI (n c v : Nat) : Nat := if c < n then v else 0
def lS (n : Nat) : Nat := lI n 0 10 + lI n 10 15 + lI n 15 22 + lI n 22 33 + lI n 33 49 + lI n 49 73 + lI n 73 109 + lI n 109 163 + lI n 163 244 + lI n 244 366 + lI n 366 549 + lI n 549 823 + lI n 823 1234 + lI n 1234 1851
def lC (n : Nat) : Nat := lI n 0 1 + lI n 10 1 + lI n 15 1 + lI n 22 1 + lI n 33 1 + lI n 49 1 + lI n 73 1 + lI n 109 1 + lI n 163 1 + lI n 244 1 + lI n 366 1 + lI n 549 1 + lI n 823 1 + lI n 1234 1
theorem lI_le {n m : Nat} (h : n ≤ m) (c v : Nat) : lI n c v ≤ lI m c v := by
  unfold lI
  split
  · rw [if_pos (by omega)]; exact Nat.le_refl _
  · exact Nat.zero_le _
theorem lS_le {n m : Nat} (h : n ≤ m) : lS n ≤ lS m := by
  unfold lS
  repeat (first | exact lI_le h _ _ | apply Nat.add_le_add)
theorem lC_le {n m : Nat} (h : n ≤ m) : lC n ≤ lC m := by
  unfold lC
  repeat (first | exact lI_le h _ _ | apply Nat.add_le_add)
theorem l_step_ : ∀ i : Fin 1851, (i.val < capL i.val ∧ lS (i.val + 1) = lS i.val ∧ lC (i.val + 1) = lC i.val ∧ capL (i.val + 1) = capL i.val) ∨ (i.val = 0 ∧ capL i.val = 0 ∧ capL (i.val + 1) = 10 ∧ lS (i.val + 1) = lS i.val + 10 ∧ lC (i.val + 1) = lC i.val + 1) ∨ (2 ≤ i.val ∧ capL i.val = i.val ∧ capL (i.val + 1) = i.val + i.val / 2 ∧ lS (i.val + 1) = lS i.val + (i.val + i.val / 2) ∧ lC (i.val + 1) = lC i.val + 1) := by decide +kernel
theorem l_step {n : Nat} (h : n < 1851) : (n < capL n ∧ lS (n + 1) = lS n ∧ lC (n + 1) = lC n ∧ capL (n + 1) = capL n) ∨ (n = 0 ∧ capL n = 0 ∧ capL (n + 1) = 10 ∧ lS (n + 1) = lS n + 10 ∧ lC (n + 1) = lC n + 1) ∨ (2 ≤ n ∧ capL n = n ∧ capL (n + 1) = n + n / 2 ∧ lS (n + 1) = lS n + (n + n / 2) ∧ lC (n + 1) = lC n + 1) := l_step_ ⟨n, h⟩
theorem capL_ge {n : Nat} (h : n ≤ 1851) : n ≤ capL n := by
  by_cases h1 : n < 1851
  · rcases l_step h1 with e | e | e <;> omega
  · have : n = 1851 := by omega
    subst this; decide
theorem capL_le (n : Nat) : capL n ≤ 2000 := by
  by_cases h : 1234 < n
  · unfold capL; rw [if_pos h]; decide
  · have h9 : ∀ i : Fin 1235, capL i.val ≤ 2000 := by decide +kernel
    exact h9 ⟨n, by omega⟩
def nV (V : List Nat) (k : Nat) : Nat := V.getD k 0
def vV (V : List Nat) (j : Nat) : Value := if j < V.length then .ref (nV V j) else .null
theorem nV_mem {V : List Nat} {k : Nat} (h : k < V.length) : nV V k ∈ V := by
  unfold nV
  rw [List.getD_eq_getElem?_getD, List.getElem?_eq_getElem h]
  exact List.getElem_mem h
theorem nV_app {V : List Nat} {k : Nat} (h : k < V.length) (v : Nat) : nV (V ++ [v]) k = nV V k := by
  unfold nV
  rw [List.getD_eq_getElem?_getD, List.getD_eq_getElem?_getD, List.getElem?_append_left h]
theorem nV_last (V : List Nat) (v : Nat) : nV (V ++ [v]) V.length = v := by
  unfold nV
  rw [List.getD_eq_getElem?_getD, List.getElem?_append_right (Nat.le_refl _), Nat.sub_self]; rfl
theorem vV_app (V : List Nat) (v : Nat) : updV (vV V) V.length (.ref v) = vV (V ++ [v]) := by
  funext j
  unfold updV vV
  rw [List.length_append, List.length_singleton]
  by_cases h : j = V.length
  · subst h
    rw [if_pos rfl, if_pos (by omega), nV_last]
  · rw [if_neg h]
    by_cases h2 : j < V.length
    · rw [if_pos h2, if_pos (by omega), nV_app h2]
    · rw [if_neg h2, if_neg (by omega)]
theorem vV_nil : vV [] = fun _ => .null := by funext j; rfl
theorem vV_cpy (V : List Nat) : va_cpy (vV V) (fun _ => Value.null) 0 0 V.length = vV V := by
  funext j
  unfold va_cpy
  by_cases h : j < V.length
  · rw [if_pos (by omega)]; congr 1; omega
  · rw [if_neg (by omega)]; unfold vV; rw [if_neg h]
theorem vV_el {w : pb_W} {H : Heap} {V : List Nat} (h : ∀ x ∈ V, pb_El w H x) (i : Nat) : vV V i = .null ∨ ∃ y, vV V i = .ref y ∧ pb_El w H y := by
  unfold vV
  by_cases hi : i < V.length
  · rw [if_pos hi]; exact Or.inr ⟨_, rfl, h _ (nV_mem hi)⟩
  · rw [if_neg hi]; exact Or.inl rfl
abbrev lF (e n : Nat) : List Value := [.int (iZ ((n : Nat) : Int)), .ref e, .int (iZ ((n : Nat) : Int))]
/-- a list that is written: its object a, its array e -/
def Lb (w : pb_W) (H : Heap) (z a e : Nat) (V : List Nat) : Prop := z ≤ a ∧ pb_O w H a 15 (lF e V.length) ∧ ((V = [] ∧ e = w.2.2.1 0) ∨ (V ≠ [] ∧ z ≤ e ∧ pb_A w H e 4 (capL V.length) (vV V)))
/-- a list that is read -/
def Lr (w : pb_W) (H : Heap) (P : Nat → Prop) (a : Nat) (V : List Nat) : Prop := ∃ e, P a ∧ pb_R w H a 15 (lF e V.length) ∧ V.length ≤ 1851 ∧ (V = [] ∨ (P e ∧ ∃ m g, pb_B w H e 4 m g ∧ V.length ≤ m ∧ m ≤ 2000 ∧ ∀ j, j < V.length → g j = .ref (nV V j)))
theorem Lb.kept {w : pb_W} {H H1 : Heap} {z a e : Nat} {V : List Nat} (h : Lb w H z a e V) (h1 : H1[a]? = H[a]?) (h2 : z ≤ e → e < H.size → H1[e]? = H[e]?) : Lb w H1 z a e V := by
  refine ⟨h.1, h.2.1.kept h1, ?_⟩
  rcases h.2.2 with h3 | ⟨h3, h4, h5⟩
  · exact Or.inl h3
  · exact Or.inr ⟨h3, h4, h5.kept (h2 h4 h5.lt)⟩
theorem Lb.r {w : pb_W} {H : Heap} {z a e : Nat} {V : List Nat} (h : Lb w H z a e V) (hn : V.length ≤ 1851) : Lr w H (fun q => z ≤ q ∧ q < H.size) a V := by
  obtain ⟨h1, h2, h3⟩ := h
  refine ⟨e, ⟨h1, h2.lt⟩, h2.r, hn, ?_⟩
  rcases h3 with h3 | ⟨h3, h4, h5⟩
  · exact Or.inl h3.1
  · exact Or.inr ⟨⟨h4, h5.lt⟩, _, _, h5.b, capL_ge hn, capL_le _, fun j hj => if_pos hj⟩
theorem Lr.kept {w : pb_W} {H H1 : Heap} {P : Nat → Prop} {a : Nat} {V : List Nat} (h : Lr w H P a V) (f : pb_F P H H1) : Lr w H1 P a V := by
  obtain ⟨e, h1, h2, hn, h3⟩ := h
  refine ⟨e, h1, h2.kept (f.2 _ h2.lt h1), hn, ?_⟩
  rcases h3 with h3 | ⟨h3, m, g, h4, h5⟩
  · exact Or.inl h3
  · exact Or.inr ⟨h3, m, g, h4.kept (f.2 _ h4.lt h3), h5⟩
theorem Lr.mono {w : pb_W} {H : Heap} {P P' : Nat → Prop} {a : Nat} {V : List Nat} (h : Lr w H P a V) (hp : ∀ q, q < H.size → P q → P' q) : Lr w H P' a V := by
  obtain ⟨e, h1, h2, hn, h3⟩ := h
  refine ⟨e, hp _ h2.lt h1, h2, hn, ?_⟩
  rcases h3 with h3 | ⟨h3, m, g, h4, h5⟩
  · exact Or.inl h3
  · exact Or.inr ⟨hp _ h4.lt h3, m, g, h4, h5⟩
theorem Lr.below {w : pb_W} {H : Heap} {P : Nat → Prop} {a : Nat} {V : List Nat} (h : Lr w H P a V) : Lr w H (fun q => q < H.size) a V := h.mono fun _ h _ => h
theorem Lr.o {w : pb_W} {H : Heap} {P : Nat → Prop} {a : Nat} {V : List Nat} (h : Lr w H P a V) : ∃ fs, pb_R w H a 15 fs := by
  obtain ⟨e, h1, h2, h3⟩ := h
  exact ⟨_, h2⟩
theorem Lr.n {w : pb_W} {H : Heap} {P : Nat → Prop} {a : Nat} {V : List Nat} (h : Lr w H P a V) : V.length ≤ 1851 := by
  obtain ⟨e, h1, h2, h3, h4⟩ := h
  exact h3
theorem Lb.o {w : pb_W} {H : Heap} {z a e : Nat} {V : List Nat} (h : Lb w H z a e V) : ∃ fs, pb_R w H a 15 fs := ⟨_, h.2.1.r⟩
/-- an iterator: k elements have been handed out, of n -/
abbrev iF (a k n : Nat) : List Value := [.int (iZ ((k : Nat) : Int)), .int (iZ (((k : Nat) : Int) - 1)), .int (iZ ((n : Nat) : Int)), .ref a]
def It (w : pb_W) (H : Heap) (i a k n : Nat) : Prop := pb_O w H i 16 (iF a k n)
theorem It.o {w : pb_W} {H : Heap} {i a k n : Nat} (h : It w H i a k n) : ∃ fs, pb_R w H i 16 fs := ⟨_, pb_O.r h⟩
theorem pb_M.post {w : pb_W} {l : Launch} {y : MethodName} {cc : ByteArray} {nL : Nat} {ret : Option FieldType} {d mc ms : Nat} {as : List Value} {H : Heap} {post post' : Option Value → Heap → Prop} (h : pb_M w l y cc nL ret d mc ms as H post) (hp : ∀ v H1, post v H1 → post' v H1) : pb_M w l y cc nL ret d mc ms as H post' := by
  intro p e ha hc hk s m args below hf happ hP hK
  obtain ⟨n, o, h1, h2, h3, ⟨v, h4, h5⟩, h6⟩ := h p e ha hc hk s m args below hf happ hP hK
  exact ⟨n, o, h1, h2, h3, ⟨v, h4, hp _ _ h5⟩, h6⟩
theorem pb_El.up {w : pb_W} {H H1 : Heap} {a x : Nat} {fs : List Value} (hR : pb_R w H1 a 15 fs) (h : pb_El w H x) (u : pb_Up a H H1) : pb_El w H1 x := by
  by_cases e : x = a
  · subst e; exact ⟨15, _, fs, hR, rfl, q2129⟩
  · exact h.kept (u.2 _ e)
