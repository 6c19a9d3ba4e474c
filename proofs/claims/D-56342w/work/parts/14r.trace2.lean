set_option maxRecDepth 100000
theorem TI_0 {g W : Nat → Nat} {cx cy bg ar : Nat → Int} (h : ∀ i, i < 625 → W i = 0) : TI g 0 W cx cy bg ar 0 0 := by
  have hb : ∀ e, rng e → ¬ bit W e = true := fun e hr => by
    unfold bit
    have h1 := hr.1
    have h2 := hr.2.1
    rw [h _ (by omega), Nat.zero_testBit]
    decide
  refine ⟨fun i hi => by rw [h i hi]; decide, fun e hr z => absurd z (hb e hr), fun e hr => ⟨fun z => absurd z (hb e hr), fun ⟨d, hd, _⟩ => ?_⟩, rfl, Nat.zero_le _, rfl, Nat.zero_le _, ?_, ?_, fun i hi => absurd hi (by omega), ?_⟩
  · cases hd
  · intro i hi; cases hi
  · intro i hi; cases hi
  · intro i hi; cases hi
theorem TI_b {g W : Nat → Nat} {j : Nat} {cx cy bg ar : Nat → Int} {on cn : Nat} (h : TI g j W cx cy bg ar on cn) : on ≤ 312 ∧ cn ≤ 1250 := by
  have h1 := wc_le (g := g) (fun e a b => (h.2.1 e a b).1)
  have h2 := h.2.2.2.2.1
  have h3 := h.2.2.2.2.2.2.1
  omega
theorem lj_eq {k a : Nat} (ha : a < 4) : lj (4 * k + a) = (k % 25, k / 25, a) := by
  unfold lj
  rw [show (4 * k + a) / 4 = k by omega, show (4 * k + a) % 4 = a by omega]
theorem offs_app (g : Nat → Nat) (L M : List (Nat × Nat × Nat)) : offs g (L ++ M) = offs g L ++ offs g M := by
  unfold offs; simp
theorem TI_at {g W : Nat → Nat} {j : Nat} {cx cy bg ar : Nat → Int} {on cn : Nat} (h : TI g j W cx cy bg ar on cn) {q : Nat} {d : Nat × Nat × Nat} (hq : (outs g j)[q]? = some d) :
    q < on ∧ ∃ f : Nat, bg q = (f : Int) ∧ bg (q + 1) = ((f + (crn g d).length : Nat) : Int) ∧ ar q = arA g d ∧ f + (crn g d).length ≤ 1250 ∧ ∀ (c : Nat) (e : Nat × Nat × Nat), (crn g d)[c]? = some e → cx (f + c) = (e.1 : Int) ∧ cy (f + c) = (e.2.1 : Int) := by
  have hb := TI_b h
  obtain ⟨t1, t2, t3, t4, t5, t6, t7, t8, t9, t10, t11⟩ := h
  obtain ⟨hlt, hget⟩ := List.getElem?_eq_some_iff.mp hq
  have hon : q < on := by omega
  have e1 : offs g ((outs g j).take (q + 1)) = offs g ((outs g j).take q) ++ crn g d := by
    rw [List.take_succ, hq, offs_app]; simp [offs]
  have e2 : offs g (outs g j) = offs g ((outs g j).take q) ++ (crn g d ++ offs g ((outs g j).drop (q + 1))) := by
    rw [← List.append_assoc, ← e1, ← offs_app, List.take_append_drop]
  refine ⟨hon, (offs g ((outs g j).take q)).length, (t10 q hon).1, by rw [(t10 q hon).2, e1, List.length_append], by rw [t11 q hlt, hget], ?_, ?_⟩
  · have := congrArg List.length e2
    rw [List.length_append, List.length_append] at this
    omega
  · intro c e hc
    obtain ⟨hc1, hc2⟩ := List.getElem?_eq_some_iff.mp hc
    have hi : (offs g ((outs g j).take q)).length + c < (offs g (outs g j)).length := by
      have := congrArg List.length e2
      rw [List.length_append, List.length_append] at this
      omega
    have he : (offs g (outs g j))[(offs g ((outs g j).take q)).length + c]? = some e := by
      rw [e2, List.getElem?_append_right (by omega), Nat.add_sub_cancel_left, List.getElem?_append_left hc1, hc]
    obtain ⟨h9, he⟩ := List.getElem?_eq_some_iff.mp he
    refine ⟨?_, ?_⟩
    · rw [t8 _ (by rw [lnX, List.length_map]; exact hi)]
      unfold lnX
      rw [List.getElem_map, he]
    · rw [t9 _ (by rw [lnY, List.length_map]; exact hi)]
      unfold lnY
      rw [List.getElem_map, he]
theorem TI_len {g W : Nat → Nat} {j : Nat} {cx cy bg ar : Nat → Int} {on cn : Nat} (h : TI g j W cx cy bg ar on cn) : on = (outs g j).length := h.2.2.2.1
