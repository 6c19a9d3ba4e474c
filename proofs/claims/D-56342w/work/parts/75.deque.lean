set_option maxRecDepth 100000
/-! a ring of references -/
def dqP (m i : Nat) : Nat := if i + 1 < m then i + 1 else 0
def dqB (m i : Nat) : Nat := if i = 0 then m - 1 else i - 1
def dqI (m h n : Nat) : Nat := if h + n < m then h + n else h + n - m
def dqO (m h i : Nat) : Nat := if h ≤ i then i - h else i + m - h
def dqF (m h : Nat) (V : List Nat) (i : Nat) : Value := if i < m ∧ dqO m h i < V.length then .ref (nV V (dqO m h i)) else .null
def dqj (m : Nat) : Nat := if m < 64 then m + 2 else m / 2
def dqn (m : Nat) : Nat := m + dqj m
theorem dqI_lt {m h n : Nat} (h1 : h < m) (h2 : n ≤ m) : dqI m h n < m := by unfold dqI; split <;> omega
theorem dqP_lt {m i : Nat} (h1 : i < m) : dqP m i < m := by unfold dqP; split <;> omega
theorem dqP_I {m h n : Nat} (h1 : h < m) (h2 : n < m) : dqP m (dqI m h n) = dqI m h (n + 1) := by
  unfold dqP dqI
  by_cases e : h + n < m
  · rw [if_pos e]; split <;> split <;> omega
  · rw [if_neg e, if_pos (by omega)]; split <;> omega
theorem dqB_I {m h n : Nat} (h1 : h < m) (h2 : n < m) : dqB m (dqI m h (n + 1)) = dqI m h n := by
  unfold dqB dqI
  by_cases e : h + (n + 1) < m
  · rw [if_pos e, if_neg (by omega), if_pos (by omega)]; omega
  · rw [if_neg e]; split <;> split <;> omega
theorem dqO_I {m h n : Nat} (h1 : h < m) (h2 : n < m) : dqO m h (dqI m h n) = n := by
  unfold dqO dqI
  by_cases e : h + n < m
  · rw [if_pos e]; split <;> omega
  · rw [if_neg e]; split <;> omega
theorem dqO_inj {m h i n : Nat} (h1 : h < m) (h2 : i < m) (e : dqO m h i = n) : i = dqI m h n := by
  unfold dqO at e
  unfold dqI
  split at e <;> split <;> omega
theorem dqO_lt {m h i : Nat} (h1 : h < m) (h2 : i < m) : dqO m h i < m := by unfold dqO; split <;> omega
theorem dq_add {m h : Nat} {V : List Nat} (h1 : h < m) (h2 : V.length < m) (v : Nat) : updV (dqF m h V) (dqI m h V.length) (.ref v) = dqF m h (V ++ [v]) := by
  funext i
  unfold updV dqF
  rw [List.length_append, List.length_singleton]
  by_cases e : i = dqI m h V.length
  · rw [if_pos e, e, dqO_I h1 h2, if_pos ⟨dqI_lt h1 (by omega), by omega⟩, nV_last]
  · rw [if_neg e]
    by_cases e2 : i < m ∧ dqO m h i < V.length
    · rw [if_pos e2, if_pos ⟨e2.1, by omega⟩, nV_app e2.2]
    · rw [if_neg e2, if_neg]
      rintro ⟨e3, e4⟩
      exact e (dqO_inj h1 e3 (by have : ¬ dqO m h i < V.length := fun h => e2 ⟨e3, h⟩
                                 omega))
theorem dq_last {m h : Nat} {V : List Nat} (h1 : h < m) (v : Nat) (h2 : (V ++ [v]).length < m) : dqF m h (V ++ [v]) (dqI m h V.length) = .ref v ∧ updV (dqF m h (V ++ [v])) (dqI m h V.length) .null = dqF m h V := by
  rw [List.length_append, List.length_singleton] at h2
  refine ⟨?_, ?_⟩
  · rw [← dq_add h1 (by omega)]; exact if_pos rfl
  · rw [← dq_add h1 (by omega)]
    funext i
    unfold updV
    by_cases e : i = dqI m h V.length
    · rw [if_pos e, e]; unfold dqF; rw [dqO_I h1 (by omega), if_neg (by omega)]
    · rw [if_neg e, if_neg e]
theorem nV_cons (x : Nat) (V : List Nat) (k : Nat) : nV (x :: V) (k + 1) = nV V k := by unfold nV; simp
theorem dq_first {m h : Nat} {V : List Nat} (h1 : h < m) (v : Nat) (h2 : (v :: V).length < m) : dqF m h (v :: V) h = .ref v ∧ updV (dqF m h (v :: V)) h .null = dqF m (dqP m h) V ∧ dqI m h (v :: V).length = dqI m (dqP m h) V.length := by
  rw [List.length_cons] at h2
  have e0 : dqO m h h = 0 := by unfold dqO; rw [if_pos (Nat.le_refl _)]; omega
  refine ⟨?_, ?_, ?_⟩
  · unfold dqF; rw [e0, if_pos ⟨h1, by simp⟩]; rfl
  · funext i
    unfold updV
    by_cases e : i = h
    · rw [if_pos e, e]; unfold dqF; rw [if_neg]
      rintro ⟨-, e2⟩
      unfold dqO dqP at e2
      split at e2 <;> split at e2 <;> omega
    · rw [if_neg e]
      unfold dqF
      by_cases hi : i < m
      · have e1 : dqO m h i = dqO m (dqP m h) i + 1 := by
          unfold dqO dqP; split <;> split <;> split <;> omega
        rw [e1, List.length_cons]
        by_cases e2 : dqO m (dqP m h) i < V.length
        · rw [if_pos ⟨hi, by omega⟩, if_pos ⟨hi, e2⟩, nV_cons]
        · rw [if_neg (fun h9 => e2 (by omega)), if_neg (fun h9 => e2 h9.2)]
      · rw [if_neg (fun h9 => hi h9.1), if_neg (fun h9 => hi h9.1)]
  · rw [List.length_cons]; unfold dqI dqP; split <;> split <;> split <;> omega
theorem dqF_nil (m h : Nat) : dqF m h [] = fun _ => .null := by funext i; unfold dqF; rw [if_neg (by simp)]
theorem dqF_el {w : pb_W} {H : Heap} {V : List Nat} (h : ∀ x ∈ V, pb_El w H x) (m h9 : Nat) (i : Nat) : dqF m h9 V i = .null ∨ ∃ y, dqF m h9 V i = .ref y ∧ pb_El w H y := by
  unfold dqF
  split
  · rename_i e; exact Or.inr ⟨_, rfl, h _ (nV_mem e.2)⟩
  · exact Or.inl rfl
/-- the ring copied into a longer one, its first leg moved to the end -/
def dqG (m h : Nat) (V : List Nat) (k : Nat) : Nat → Value := fun i => if h ≤ i ∧ i < k then .null else va_cpy (va_cpy (dqF m h V) (fun _ => .null) 0 0 m) (va_cpy (dqF m h V) (fun _ => .null) 0 0 m) h (h + (dqn m - m)) (m - h) i
theorem dqG_0 (m h : Nat) (V : List Nat) : dqG m h V h = va_cpy (va_cpy (dqF m h V) (fun _ => .null) 0 0 m) (va_cpy (dqF m h V) (fun _ => .null) 0 0 m) h (h + (dqn m - m)) (m - h) := by
  funext i; exact if_neg (by omega)
theorem dqG_step {m h k : Nat} (V : List Nat) (hk : h ≤ k) : updV (dqG m h V k) k .null = dqG m h V (k + 1) := by
  funext i
  unfold updV dqG
  by_cases e : i = k
  · subst e; rw [if_pos rfl, if_pos (by omega)]
  · rw [if_neg e]
    by_cases e2 : h ≤ i ∧ i < k
    · rw [if_pos e2, if_pos (by omega)]
    · rw [if_neg e2, if_neg (by omega)]
theorem dqG_end {m h : Nat} {V : List Nat} (h1 : h < m) (h2 : V.length = m) : dqG m h V (h + (dqn m - m)) = dqF (dqn m) (h + (dqn m - m)) V := by
  have hj : m < dqn m := by unfold dqn dqj; split <;> omega
  funext i
  unfold dqG
  by_cases e : h ≤ i ∧ i < h + (dqn m - m)
  · rw [if_pos e]; unfold dqF; rw [if_neg]
    rintro ⟨e1, e2⟩; unfold dqO at e2; rw [if_neg (by omega)] at e2; omega
  · rw [if_neg e]
    unfold va_cpy
    by_cases e2 : h + (dqn m - m) ≤ i ∧ i < h + (dqn m - m) + (m - h)
    · rw [if_pos e2, if_pos (by omega)]
      unfold dqF
      have e4 : dqO m h (0 + (h + (i - (h + (dqn m - m))) - 0)) = dqO (dqn m) (h + (dqn m - m)) i := by
        unfold dqO; rw [if_pos (by omega), if_pos (by omega)]; omega
      rw [e4]
      by_cases e5 : dqO (dqn m) (h + (dqn m - m)) i < V.length
      · rw [if_pos ⟨by omega, e5⟩, if_pos ⟨by omega, e5⟩]
      · rw [if_neg (fun h9 => e5 h9.2), if_neg (fun h9 => e5 h9.2)]
    · rw [if_neg e2]
      by_cases e3 : i < h
      · rw [if_pos (by omega)]
        unfold dqF
        have e4 : dqO m h (0 + (i - 0)) = dqO (dqn m) (h + (dqn m - m)) i := by
          unfold dqO; rw [if_neg (by omega), if_neg (by omega)]; omega
        rw [e4]
        by_cases e5 : dqO (dqn m) (h + (dqn m - m)) i < V.length
        · rw [if_pos ⟨by omega, e5⟩, if_pos ⟨by omega, e5⟩]
        · rw [if_neg (fun h9 => e5 h9.2), if_neg (fun h9 => e5 h9.2)]
      · rw [if_neg (by omega)]
        unfold dqF; rw [if_neg (by omega)]
theorem dqG_first {m h : Nat} {V : List Nat} (h1 : h < m) (h2 : V.length = m) : va_cpy (dqF m h V) (fun _ => .null) 0 0 m h = .ref (nV V 0) := by
  have e0 : dqO m h h = 0 := by unfold dqO; rw [if_pos (Nat.le_refl _)]; omega
  unfold va_cpy
  rw [if_pos (by omega), show 0 + (h - 0) = h by omega]
  unfold dqF
  rw [e0, if_pos ⟨h1, by omega⟩]
/-- capacities -/
def dqM (m : Nat) : Prop := m = 17 ∨ m = 36 ∨ m = 74 ∨ m = 111 ∨ m = 166 ∨ m = 249 ∨ m = 373 ∨ m = 559 ∨ m = 838
def dqC (m : Nat) : Nat := if m = 17 then 8 else if m = 36 then 7 else if m = 74 then 6 else if m = 111 then 5 else if m = 166 then 4 else if m = 249 then 3 else if m = 373 then 2 else if m = 559 then 1 else 0
def dqS (m : Nat) : Nat := if m = 17 then 2406 else if m = 36 then 2370 else if m = 74 then 2296 else if m = 111 then 2185 else if m = 166 then 2019 else if m = 249 then 1770 else if m = 373 then 1397 else if m = 559 then 838 else 0
theorem dq_step {m : Nat} (h : dqM m) (h2 : m < 838) : dqM (dqn m) ∧ dqS m = dqS (dqn m) + dqn m ∧ dqC m = dqC (dqn m) + 1 := by
  rcases h with rfl | rfl | rfl | rfl | rfl | rfl | rfl | rfl | rfl
  all_goals first
    | exact absurd h2 (by decide)
    | exact ⟨by unfold dqM; decide, by decide, by decide⟩
theorem dqM_le {m : Nat} (h : dqM m) : 17 ≤ m ∧ m ≤ 838 := by unfold dqM at h; omega
def dqg (m n : Nat) : Nat := if n + 1 < m then m else dqn m
/-- a deque: object d, ring e of m cells, its head h -/
def Dq (w : pb_W) (H : Heap) (z d e m h : Nat) (V : List Nat) : Prop := z ≤ d ∧ z ≤ e ∧ pb_O w H d 18 [.ref e, .int (iZ ((h : Nat) : Int)), .int (iZ ((dqI m h V.length : Nat) : Int))] ∧ pb_A w H e 4 m (dqF m h V) ∧ h < m ∧ dqM m ∧ V.length < m
theorem Dq.kept {w : pb_W} {H H1 : Heap} {z d e m h : Nat} {V : List Nat} (k : Dq w H z d e m h V) {Q : Nat → Prop} (f : pb_F Q H H1) (hd : Q d) (he : Q e) : Dq w H1 z d e m h V :=
  ⟨k.1, k.2.1, k.2.2.1.kept (f.2 _ k.2.2.1.lt hd), k.2.2.2.1.kept (f.2 _ k.2.2.2.1.lt he), k.2.2.2.2⟩
theorem Dq.o {w : pb_W} {H : Heap} {z d e m h : Nat} {V : List Nat} (k : Dq w H z d e m h V) : ∃ fs, pb_R w H d 18 fs := ⟨_, k.2.2.1.r⟩
theorem Bx.El {w : pb_W} {H : Heap} {b : Nat} {x : Int} (h : Bx w H b x) : pb_El w H b := ⟨17, _, _, h, rfl, q2150⟩
theorem Bx.kept {w : pb_W} {H H1 : Heap} {b : Nat} {x : Int} (h : Bx w H b x) (e : H1[b]? = H[b]?) : Bx w H1 b x := pb_R.kept h e
theorem Bx.lt {w : pb_W} {H : Heap} {b : Nat} {x : Int} (h : Bx w H b x) : b < H.size := pb_R.lt h
theorem dqC_el {w : pb_W} {H : Heap} {f : Nat → Value} (h : ∀ i : Nat, f i = .null ∨ ∃ y, f i = .ref y ∧ pb_El w H y) (m i : Nat) : va_cpy f (fun _ => .null) 0 0 m i = .null ∨ ∃ y, va_cpy f (fun _ => .null) 0 0 m i = .ref y ∧ pb_El w H y := by
  unfold va_cpy
  split
  · exact h _
  · exact Or.inl rfl
