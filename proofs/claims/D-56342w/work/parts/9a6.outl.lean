set_option maxRecDepth 100000
/-! outlines that are asked for -/
theorem crn_lim {g : Nat → Nat} (hg : gok g) {d : Nat × Nat × Nat} (hd : lok g d) : (crn g d).length ≤ 1250 ∧ -30000 ≤ arA g d ∧ arA g d ≤ 30000 := by
  obtain ⟨h1, h2, -⟩ := TJ_pcl (TJ_0 g)
  obtain ⟨h3, h4⟩ := crn_lt hg hd h2 (by unfold bit; rw [Nat.zero_testBit]; exact Bool.false_ne_true) h1
  have h5 := arK_rng hg hd (per g d)
  unfold arA
  omega
theorem neg_step {α : Type} (p : α → Bool) {D : List α} {k : Nat} {d : α} (h : D[k]? = some d) : (((D.take (k + 1)).filter p).length : Int) = (((D.take k).filter p).length : Int) + (if p d = true then 1 else 0) := by
  rw [List.take_succ, h, List.filter_append, List.length_append]
  show (((_ + ([d].filter p).length : Nat)) : Int) = _
  by_cases e : p d = true
  · rw [if_pos e, List.filter_cons_of_pos e]; simp
  · rw [if_neg e, List.filter_cons_of_neg e]; simp
theorem nV_map {α : Type} {f : α → Nat} {C : List α} {c : Nat} {e : α} (h : C[c]? = some e) : nV (C.map f) c = f e := by
  unfold nV
  rw [List.getD_eq_getElem?_getD, List.getElem?_map, h]; rfl
theorem get_lt {α : Type} {C : List α} {c : Nat} {e : α} (h : C[c]? = some e) : c < C.length := (List.getElem?_eq_some_iff.mp h).1
theorem Bx_cB {w : pb_W} {s : State} {H : Heap} (hG : pb_G w s H) {x : Nat} (hx : x ≤ 24) {v : Nat} (e : v = cB w x) : Bx w H v ((x : Nat) : Int) := by
  subst e; exact (cB_at hG (by omega)).2
